/-! THE TWIN, L: runs, weeks, cases -/
set_option maxRecDepth 100000
theorem con_X5_run (l : Launch) {h h1 : zH} (e1 : h1 = setI h (1, 0) 0 0) {B b mu : Int} {tx0 : zTx} {hs : Int → zTx} (T : TwK h1 B b mu tx0 hs) (hB : B ≤ 700000000) (n : Int) : Con l mX5_run 10 0 0 [zR (some (1, 0)), zI n] h (rI fun x h' => (((1 ≤ n ∧ n ≤ 400) ∧ gI h1 (1, 5) 518 + n ≤ 60000) → x = sTicks b mu tx0 hs n.toNat (gI h1 (1, 5)) 519 - gI h1 (1, 5) 519 ∧ gI h' (1, 5) = sTicks b mu tx0 hs n.toNat (gI h1 (1, 5)) ∧ Same cW h1 h') ∧ (¬ ((1 ≤ n ∧ n ≤ 400) ∧ gI h1 (1, 5) 518 + n ≤ 60000) → x = -1 ∧ h' = h1)) zNo := by
  refine Con.ofS (by decide +kernel) (Nat.le_of_ble_eq_true rfl) fun Γ hΓ hno hwf hav => ?_
  have hΓ : Ctx Γ l cX5_run RX5 "run" 3 (Option.some Jvm.ClassFile.FieldType.int) _ _ 10 _ _ := hΓ
  show SS Γ 0 [some (zR _), some (zI _), none] [] _ 0 0
  have hTw := T.tw.thr e1
  have hct := T.ok.ct
  unfold RCt at hct
  have lp : ((1 ≤ n ∧ n ≤ 400) ∧ gI h1 (1, 5) 518 + n ≤ 60000) → ∀ (m : Nat) (i : Nat) (h' : zH), (i : Int) + m = n → TkR (setI h1 (1, 0) 41 0) h' → gI h' (1, 5) = sTicks b mu tx0 hs i (gI h1 (1, 5)) → SS Γ 41 [some (zR (some (1, 0))), some (zI n), some (zI i)] [] h' 0 0 := by
    intro hn m
    induction m with
    | zero =>
      intro i h' hi hTk hr
      have hTw := (T.tw).same hTk.s
      have ok9 := (RowOK.ticks (b := b) (mu := mu) (hs := hs) T.t0.wf T.ok i).1
      rw [← hr] at ok9
      have hct9 := ok9.ct
      unfold RCt at hct9
      have e5 : gI (setI h1 (1, 0) 41 0) (1, 5) 519 = gI h1 (1, 5) 519 := by rw [gI_ot _ _ _ (n1 (by decide))]
      have e41 : gI (setI h1 (1, 0) 41 0) (1, 0) 41 = 0 := by rw [gI_setI, if_pos ⟨rfl, rfl⟩]
      have h9 := hTk.ar (by omega) (by omega)
      refine zs_iload_n hΓ dX5_run_41 (pc' := 42) rfl rfl rfl ?_
      refine zs_iload_n hΓ dX5_run_42 (pc' := 43) rfl rfl rfl ?_
      refine zs_icmpge hΓ dX5_run_43 (tgt := 56) (by decide) (pc' := 46) rfl (fun c_43 => ?_) (fun c_43 => False.elim (absurd c_43 (by omega)))
      refine zs_aload_n hΓ dX5_run_56 (pc' := 57) rfl rfl rfl ?_
      refine zs_geti hΓ dX5_run_57 (pc' := 60) rfl fX5_420 (i9 := 41) rfl rfl (tw_t hTw) ?_
      exact zs_iret hΓ dX5_run_60 rfl (by omega) (by omega) (⟨_, rfl, fun _ => ⟨by rw [h9, e41, e5, hr, show i = n.toNat by omega]; omega, by rw [hr, show i = n.toNat by omega], (Same.set (Same.rf _ _) (Or.inr (Or.inr ⟨rfl, by decide⟩))).tr hTk.s⟩, fun z => absurd hn z⟩)
    | succ m ih =>
      intro i h' hi hTk hr
      have hTw := (T.tw).same hTk.s
      have ok9 := (RowOK.ticks (b := b) (mu := mu) (hs := hs) T.t0.wf T.ok i).1
      have T' : TwK h' (B + 100 * i) b mu tx0 hs := T.same ((Same.set (Same.rf _ _) (Or.inr (Or.inr ⟨rfl, by decide⟩))).tr hTk.s) (by rw [hr]; exact ok9)
      refine zs_iload_n hΓ dX5_run_41 (pc' := 42) rfl rfl rfl ?_
      refine zs_iload_n hΓ dX5_run_42 (pc' := 43) rfl rfl rfl ?_
      refine zs_icmpge hΓ dX5_run_43 (tgt := 56) (by decide) (pc' := 46) rfl (fun c_43 => False.elim (absurd c_43 (by omega))) (fun c_43 => ?_)
      refine zs_aload_n hΓ dX5_run_46 (pc' := 47) rfl rfl rfl ?_
      refine zs_callVV hΓ dX5_run_47 (pc' := 50) rfl kX5_423 (con_X5_tick l T' (by omega)) (tw_t hTw) rfl rfl rfl (Nat.le_of_ble_eq_true rfl) (by omega) (by decide) (by omega) (by omega) (fun h_47 q_47 k_47 => ?_) (fun _ _ q _ => False.elim q)
      obtain ⟨p1, p2⟩ := q_47
      refine zs_iinc hΓ dX5_run_50 (pc' := 53) rfl (L' := [some (zR _), some (zI _), some (zI _)]) rfl (by unfold inI; omega) (by decide) rfl rfl ?_
      refine zs_goto hΓ dX5_run_53 (tgt := 41) (by decide) ?_
      have h9 := ih (i + 1) _ (by omega) (hTk.tr p2) (by rw [p1, hr]; rfl)
      rw [show ((i + 1 : Nat) : Int) = (i : Int) + 1 by omega] at h9
      exact h9
  refine zs_aload_n hΓ dX5_run_0 (pc' := 1) rfl rfl rfl ?_
  refine zs_iconst hΓ dX5_run_1 (pc' := 2) rfl ⟨by decide, by decide⟩ ?_
  refine zs_puti hΓ dX5_run_2 (pc' := 5) rfl fX5_1 (fun q hq => (by cases hq; exact Or.inl rfl)) (i9 := 0) rfl trivial (tw_t hTw) (show (0 : Int) ≤ 1 by decide) ?_
  rw [← e1]; have hTw := T.tw
  refine zs_iload_n hΓ dX5_run_5 (pc' := 6) rfl rfl rfl ?_
  refine zs_iconst hΓ dX5_run_6 (pc' := 7) rfl ⟨by decide, by decide⟩ ?_
  refine zs_sipush hΓ dX5_run_7 (pc' := 10) rfl ⟨by decide, by decide⟩ ?_
  refine zs_callSIP hΓ dX5_run_10 (pc' := 13) rfl kX5_132 (con_X5_isIn l _ _ _) rfl rfl (Nat.le_of_ble_eq_true rfl) (by omega) (by decide) (by omega) (by omega) ?_ (fun _ _ q _ => False.elim q)
  refine zs_ifeq hΓ dX5_run_13 (tgt := 32) (by decide) (pc' := 16) rfl (fun c_13 => ?_) (fun c_13 => ?_)
  · try have c_13 := iB_eq c_13
    refine zs_iconst hΓ dX5_run_32 (pc' := 33) rfl ⟨by decide, by decide⟩ ?_
    exact zs_iret hΓ dX5_run_33 rfl (by omega) (by omega) (⟨_, rfl, fun z => absurd z.1 c_13, fun _ => ⟨rfl, rfl⟩⟩)
  · try have c_13 := iB_ne c_13
    refine zs_aload_n hΓ dX5_run_16 (pc' := 17) rfl rfl rfl ?_
    refine zs_getrE hΓ dX5_run_17 (pc' := 20) rfl fX5_30 (i9 := 5) rfl rfl (tw_t hTw) (tw_p5 hTw) ?_
    refine zs_sipush hΓ dX5_run_20 (pc' := 23) rfl ⟨by decide, by decide⟩ ?_
    refine zs_iald hΓ dX5_run_23 (pc' := 24) rfl (tw_a5 hTw) (by omega) (by omega) ?_
    refine zs_iload_n hΓ dX5_run_24 (pc' := 25) rfl rfl rfl ?_
    refine zs_iadd hΓ dX5_run_25 (pc' := 26) rfl (by unfold inI; omega) ?_
    refine zs_ldcw hΓ dX5_run_26 (pc' := 29) rfl (v := 60000) q1997 ⟨by decide, by decide⟩ ?_
    refine zs_icmple hΓ dX5_run_29 (tgt := 34) (by decide) (pc' := 32) rfl (fun c_29 => ?_) (fun c_29 => ?_)
    · refine zs_aload_n hΓ dX5_run_34 (pc' := 35) rfl rfl rfl ?_
      refine zs_iconst hΓ dX5_run_35 (pc' := 36) rfl ⟨by decide, by decide⟩ ?_
      refine zs_puti hΓ dX5_run_36 (pc' := 39) rfl fX5_420 (fun q hq => (by cases hq; exact Or.inl rfl)) (i9 := 41) rfl trivial (tw_t hTw) (show (0 : Int) ≤ 1 by decide) ?_
      refine zs_iconst hΓ dX5_run_39 (pc' := 40) rfl ⟨by decide, by decide⟩ ?_
      refine zs_istore_n hΓ dX5_run_40 (pc' := 41) rfl (L' := [some (zR _), some (zI _), some (zI _)]) rfl (by decide) rfl rfl ?_
      have h9 := lp ⟨c_13, by omega⟩ n.toNat 0 _ (by omega) (TkR.rf _) (by rw [gI_ot _ _ _ (n1 (by decide))]; rfl)
      exact h9
    · refine zs_iconst hΓ dX5_run_32 (pc' := 33) rfl ⟨by decide, by decide⟩ ?_
      exact zs_iret hΓ dX5_run_33 rfl (by omega) (by omega) (⟨_, rfl, fun z => absurd z.2 (by omega), fun _ => ⟨rfl, rfl⟩⟩)
theorem con_X5_week (l : Launch) {h h1 : zH} (e1 : h1 = setI h (1, 0) 0 0) {B b mu dry : Int} {tx0 : zTx} {hs : Int → zTx} (T : TwD h1 B b mu dry tx0 hs) : Con l mX5_week 8 0 0 [zR (some (1, 0))] h (rI fun x h' => x = sNet (sWeek b mu dry tx0 (gI h1 (1, 5))) b ∧ gI h' (1, 5) = sWeek b mu dry tx0 (gI h1 (1, 5)) ∧ Same cW h1 h') zNo := by
  refine Con.ofS (by decide +kernel) (Nat.le_of_ble_eq_true rfl) fun Γ hΓ hno hwf hav => ?_
  have hΓ : Ctx Γ l cX5_week RX5 "week" 1 (Option.some Jvm.ClassFile.FieldType.int) _ _ 8 _ _ := hΓ
  show SS Γ 0 [some (zR _)] [] _ 0 0
  have hTw := T.k.tw.thr e1
  have hwk := RowOK.week (b := b) (mu := mu) T.k.t0.wf T.hd T.k.ok
  refine zs_aload_n hΓ dX5_week_0 (pc' := 1) rfl rfl rfl ?_
  refine zs_iconst hΓ dX5_week_1 (pc' := 2) rfl ⟨by decide, by decide⟩ ?_
  refine zs_puti hΓ dX5_week_2 (pc' := 5) rfl fX5_1 (fun q hq => (by cases hq; exact Or.inl rfl)) (i9 := 0) rfl trivial (tw_t hTw) (show (0 : Int) ≤ 1 by decide) ?_
  rw [← e1]; have hTw := T.k.tw
  refine zs_aload_n hΓ dX5_week_5 (pc' := 6) rfl rfl rfl ?_
  refine zs_callVV hΓ dX5_week_6 (pc' := 9) rfl kX5_426 (con_X5_endWeek l T.k T.d30 T.hd) (tw_t hTw) rfl rfl rfl (Nat.le_of_ble_eq_true rfl) (by omega) (by decide) (by omega) (by omega) (fun h_6 q_6 k_6 => ?_) (fun _ _ q _ => False.elim q)
  obtain ⟨p1, p2⟩ := q_6
  have hTw := hTw.same p1
  refine zs_aload_n hΓ dX5_week_9 (pc' := 10) rfl rfl rfl ?_
  refine zs_callVIP hΓ dX5_week_10 (pc' := 13) rfl kX5_429 (con_X5_wornMany l hTw (by rw [p2]; exact hwk.1.hd.rw)) (tw_t hTw) rfl rfl rfl (Nat.le_of_ble_eq_true rfl) (by omega) (by decide) (by omega) (by omega) ?_ (fun _ _ q _ => False.elim q)
  exact zs_iret hΓ dX5_week_13 rfl (by omega) (by omega) (⟨_, rfl, by rw [p2, p1.2.2 _ _ (by rintro (z | z) <;> exact n1 (by decide) z), T.k.b28], p2, p1.mono fun _ _ z => z.elim Or.inl fun z => Or.inr (Or.inl z)⟩)
theorem con_X5_go (l : Launch) {h : zH} {B b mu dry : Int} {tx0 : zTx} {hs : Int → zTx} (T : TwD h B b mu dry tx0 hs) (hB : B ≤ 700000000) (n : Int) (hn : 0 ≤ n ∧ n ≤ 400) : Con l mX5_go 10 0 0 [zR (some (1, 0)), zI n] h (rV fun h' => gI h' (1, 5) = sGo b mu dry tx0 hs n.toNat (gI h (1, 5)) ∧ Same cW h h') zNo := by
  refine Con.ofS (by decide +kernel) (Nat.le_of_ble_eq_true rfl) fun Γ hΓ hno hwf hav => ?_
  have hΓ : Ctx Γ l cX5_go RX5 "go" 3 (Option.none : Option Jvm.ClassFile.FieldType) _ _ 10 _ _ := hΓ
  show SS Γ 0 [some (zR _), some (zI _), none] [] _ 0 0
  have lp : ∀ (m : Nat) (i : Nat) (h' : zH), (i : Int) + m = n → Same cW h h' → gI h' (1, 5) = sTicks b mu tx0 hs i (gI h (1, 5)) → SS Γ 2 [some (zR (some (1, 0))), some (zI n), some (zI i)] [] h' 0 0 := by
    intro m
    induction m with
    | zero =>
      intro i h' hi hS hr
      have T' := T.same (B' := B + 100 * i) (cW_5 hS) (by rw [hr]; exact (RowOK.ticks (b := b) (mu := mu) (hs := hs) T.k.t0.wf T.k.ok i).1)
      have hTw := T'.k.tw
      refine zs_iload_n hΓ dX5_go_2 (pc' := 3) rfl rfl rfl ?_
      refine zs_iload_n hΓ dX5_go_3 (pc' := 4) rfl rfl rfl ?_
      refine zs_icmpge hΓ dX5_go_4 (tgt := 17) (by decide) (pc' := 7) rfl (fun c_4 => ?_) (fun c_4 => False.elim (absurd c_4 (by omega)))
      refine zs_aload_n hΓ dX5_go_17 (pc' := 18) rfl rfl rfl ?_
      refine zs_callVV hΓ dX5_go_18 (pc' := 21) rfl kX5_426 (con_X5_endWeek l T'.k T'.d30 T'.hd) (tw_t hTw) rfl rfl rfl (Nat.le_of_ble_eq_true rfl) (by omega) (by decide) (by omega) (by omega) (fun h_18 q_18 k_18 => ?_) (fun _ _ q _ => False.elim q)
      obtain ⟨p1, p2⟩ := q_18
      exact zs_vret hΓ dX5_go_21 rfl (by omega) (by omega) (⟨rfl, by rw [p2, hr, show i = n.toNat by omega]; rfl, hS.tr (p1.mono fun _ _ z => z.elim Or.inl fun z => Or.inr (Or.inl z))⟩)
    | succ m ih =>
      intro i h' hi hS hr
      have T' := T.same (B' := B + 100 * i) (cW_5 hS) (by rw [hr]; exact (RowOK.ticks (b := b) (mu := mu) (hs := hs) T.k.t0.wf T.k.ok i).1)
      have hTw := T'.k.tw
      refine zs_iload_n hΓ dX5_go_2 (pc' := 3) rfl rfl rfl ?_
      refine zs_iload_n hΓ dX5_go_3 (pc' := 4) rfl rfl rfl ?_
      refine zs_icmpge hΓ dX5_go_4 (tgt := 17) (by decide) (pc' := 7) rfl (fun c_4 => False.elim (absurd c_4 (by omega))) (fun c_4 => ?_)
      refine zs_aload_n hΓ dX5_go_7 (pc' := 8) rfl rfl rfl ?_
      refine zs_callVV hΓ dX5_go_8 (pc' := 11) rfl kX5_423 (con_X5_tick l T'.k (by omega)) (tw_t hTw) rfl rfl rfl (Nat.le_of_ble_eq_true rfl) (by omega) (by decide) (by omega) (by omega) (fun h_8 q_8 k_8 => ?_) (fun _ _ q _ => False.elim q)
      obtain ⟨p1, p2⟩ := q_8
      refine zs_iinc hΓ dX5_go_11 (pc' := 14) rfl (L' := [some (zR _), some (zI _), some (zI _)]) rfl (by unfold inI; omega) (by decide) rfl rfl ?_
      refine zs_goto hΓ dX5_go_14 (tgt := 2) (by decide) ?_
      have h9 := ih (i + 1) _ (by omega) (hS.tr p2.s) (by rw [p1, hr]; rfl)
      rw [show ((i + 1 : Nat) : Int) = (i : Int) + 1 by omega] at h9
      exact h9
  refine zs_iconst hΓ dX5_go_0 (pc' := 1) rfl ⟨by decide, by decide⟩ ?_
  refine zs_istore_n hΓ dX5_go_1 (pc' := 2) rfl (L' := [some (zR _), some (zI _), some (zI _)]) rfl (by decide) rfl rfl ?_
  have h9 := lp n.toNat 0 h (by omega) (Same.rf _ _) rfl
  exact h9
/-- the first week behind which the net is as ahead of it -/
noncomputable def sRests (g : (Int → Int) → (Int → Int)) (b weeks : Int) (R : Int → Int) : Int := sUp (fun w => sSameW b (sWks g (w - 1).toNat R) (sWks g w.toNat R)) weeks.toNat 1
theorem con_X5_rests (l : Launch) {h h1 : zH} (e1 : h1 = setI h (1, 0) 0 0) {B b mu dry : Int} {tx0 : zTx} {hs : Int → zTx} (T : TwD h1 B b mu dry tx0 hs) (hB : B ≤ 600000000) (weeks ticks : Int) : Con l mX5_rests 11 0 0 [zR (some (1, 0)), zI weeks, zI ticks] h (rI fun x h' => (((1 ≤ weeks ∧ weeks ≤ 40) ∧ 1 ≤ ticks ∧ ticks ≤ 200) → x = sRests (sGo b mu dry tx0 hs ticks.toNat) b weeks (gI h1 (1, 5)) ∧ Same cC h1 h') ∧ (¬ ((1 ≤ weeks ∧ weeks ≤ 40) ∧ 1 ≤ ticks ∧ ticks ≤ 200) → x = -2 ∧ h' = h1)) zNo := by
  refine Con.ofS (by decide +kernel) (Nat.le_of_ble_eq_true rfl) fun Γ hΓ hno hwf hav => ?_
  have hΓ : Ctx Γ l cX5_rests RX5 "rests" 5 (Option.some Jvm.ClassFile.FieldType.int) _ _ 11 _ _ := hΓ
  show SS Γ 0 [some (zR _), some (zI _), some (zI _), none, none] [] _ 0 0
  have hTw := T.k.tw.thr e1
  have hok := T.k.ok
  generalize hR : gI h1 (1, 5) = R at *
  generalize hp : (fun w : Int => sSameW b (sWks (sGo b mu dry tx0 hs ticks.toNat) (w - 1).toNat R) (sWks (sGo b mu dry tx0 hs ticks.toNat) w.toNat R)) = p
  have hpe : ∀ w, p w ↔ sSameW b (sWks (sGo b mu dry tx0 hs ticks.toNat) (w - 1).toNat R) (sWks (sGo b mu dry tx0 hs ticks.toNat) w.toNat R) := fun w => by rw [← hp]
  have hT : sRests (sGo b mu dry tx0 hs ticks.toNat) b weeks R = sUp p weeks.toNat 1 := by unfold sRests; rw [hp]
  have lp : ((1 ≤ weeks ∧ weeks ≤ 40) ∧ 1 ≤ ticks ∧ ticks ≤ 200) → ∀ (m : Nat) (w f : Int) (h' : zH), w + m = weeks + 1 → 1 ≤ w → Same cC5 h1 h' → gI h' (1, 7) = R → gI h' (1, 5) = sWks (sGo b mu dry tx0 hs ticks.toNat) (w - 1).toNat R → ((f = -1 ∧ sUp p weeks.toNat 1 = sUp p m w) ∨ (0 ≤ f ∧ sUp p weeks.toNat 1 = f)) → SS Γ 38 [some (zR (some (1, 0))), some (zI weeks), some (zI ticks), some (zI f), some (zI w)] [] h' 0 0 := by
    intro hc m
    induction m with
    | zero =>
      intro w f h' hi hw hS h7 hr hf
      have T' := T.same (B' := B + 20000 * (w - 1).toNat) hS (by rw [hr]; exact (RowOK.wks (b := b) (mu := mu) (hs := hs) T.k.t0.wf T.hd hok (by omega) (w - 1).toNat).1)
      have hTw := T'.k.tw
      refine zs_iload hΓ dX5_rests_38 (pc' := 40) rfl rfl ?_
      refine zs_iload_n hΓ dX5_rests_40 (pc' := 41) rfl rfl rfl ?_
      refine zs_icmpgt hΓ dX5_rests_41 (tgt := 81) (by decide) (pc' := 44) rfl (fun c_41 => ?_) (fun c_41 => False.elim (absurd c_41 (by omega)))
      refine zs_aload_n hΓ dX5_rests_81 (pc' := 82) rfl rfl rfl ?_
      refine zs_callVV hΓ dX5_rests_82 (pc' := 85) rfl kX5_459 (con_X5_layBack l hTw) (tw_t hTw) rfl rfl rfl (Nat.le_of_ble_eq_true rfl) (by omega) (by decide) (by omega) (by omega) (fun h_82 q_82 k_82 => ?_) (fun _ _ q _ => False.elim q)
      obtain ⟨p1, p2⟩ := q_82
      refine zs_iload_n hΓ dX5_rests_85 (pc' := 86) rfl rfl rfl ?_
      exact zs_iret hΓ dX5_rests_86 rfl (by omega) (by omega) (⟨_, rfl, fun _ => ⟨by rw [hT]; rcases hf with ⟨f1, f2⟩ | ⟨f1, f2⟩; rw [f2, f1]; rfl; exact f2.symm, cC5_back (hS.tr (c1_5 p1 (by decide))) (by rw [p2, h7, hR])⟩, fun z => absurd hc z⟩)
    | succ m ih =>
      intro w f h' hi hw hS h7 hr hf
      have ok9 := RowOK.wks (b := b) (mu := mu) (hs := hs) (t := ticks.toNat) T.k.t0.wf T.hd hok (by omega) (w - 1).toNat
      have ok8 := RowOK.wks (b := b) (mu := mu) (hs := hs) (t := ticks.toNat) T.k.t0.wf T.hd hok (by omega) w.toNat
      have T' := T.same (B' := B + 20000 * (w - 1).toNat) hS (by rw [hr]; exact ok9.1)
      have hTw := T'.k.tw
      have hnx : sWks (sGo b mu dry tx0 hs ticks.toNat) w.toNat R = sGo b mu dry tx0 hs ticks.toNat (sWks (sGo b mu dry tx0 hs ticks.toNat) (w - 1).toNat R) := by rw [show w.toNat = (w - 1).toNat + 1 by omega]; rfl
      have hu : sUp p (m + 1) w = zIf (p w) w (sUp p m (w + 1)) := rfl
      refine zs_iload hΓ dX5_rests_38 (pc' := 40) rfl rfl ?_
      refine zs_iload_n hΓ dX5_rests_40 (pc' := 41) rfl rfl rfl ?_
      refine zs_icmpgt hΓ dX5_rests_41 (tgt := 81) (by decide) (pc' := 44) rfl (fun c_41 => False.elim (absurd c_41 (by omega))) (fun c_41 => ?_)
      refine zs_iload_n hΓ dX5_rests_44 (pc' := 45) rfl rfl rfl ?_
      refine zs_ifge hΓ dX5_rests_45 (tgt := 81) (by decide) (pc' := 48) rfl (fun c_45 => ?_) (fun c_45 => ?_)
      · refine zs_aload_n hΓ dX5_rests_81 (pc' := 82) rfl rfl rfl ?_
        refine zs_callVV hΓ dX5_rests_82 (pc' := 85) rfl kX5_459 (con_X5_layBack l hTw) (tw_t hTw) rfl rfl rfl (Nat.le_of_ble_eq_true rfl) (by omega) (by decide) (by omega) (by omega) (fun h_82 q_82 k_82 => ?_) (fun _ _ q _ => False.elim q)
        obtain ⟨p1, p2⟩ := q_82
        refine zs_iload_n hΓ dX5_rests_85 (pc' := 86) rfl rfl rfl ?_
        exact zs_iret hΓ dX5_rests_86 rfl (by omega) (by omega) (⟨_, rfl, fun _ => ⟨by rw [hT]; rcases hf with ⟨f1, f2⟩ | ⟨f1, f2⟩; omega; exact f2.symm, cC5_back (hS.tr (c1_5 p1 (by decide))) (by rw [p2, h7, hR])⟩, fun z => absurd hc z⟩)
      · refine zs_aload_n hΓ dX5_rests_48 (pc' := 49) rfl rfl rfl ?_
        refine zs_aload_n hΓ dX5_rests_49 (pc' := 50) rfl rfl rfl ?_
        refine zs_getrE hΓ dX5_rests_50 (pc' := 53) rfl fX5_92 (i9 := 44) rfl rfl (tw_t hTw) (tw_p44 hTw) ?_
        refine zs_callVV hΓ dX5_rests_53 (pc' := 56) rfl kX5_448 (con_X5_note l hTw T'.k.ok.hd.rw 44 (by decide)) (tw_t hTw) rfl rfl rfl (Nat.le_of_ble_eq_true rfl) (by omega) (by decide) (by omega) (by omega) (fun h_53 q_53 k_53 => ?_) (fun _ _ q _ => False.elim q)
        obtain ⟨p1, p2⟩ := q_53
        have hS2 := hS.tr (c1_5 p1 (by decide))
        have r2 : gI h_53 (1, 5) = gI h' (1, 5) := p1.row fun _ => n1 (by decide)
        have T2 := T.same (B' := B + 20000 * (w - 1).toNat) hS2 (by rw [r2, hr]; exact ok9.1)
        have hTw := T2.k.tw
        refine zs_aload_n hΓ dX5_rests_56 (pc' := 57) rfl rfl rfl ?_
        refine zs_iload_n hΓ dX5_rests_57 (pc' := 58) rfl rfl rfl ?_
        refine zs_callVV hΓ dX5_rests_58 (pc' := 61) rfl kX5_452 (con_X5_go l T2 (by omega) ticks (by omega)) (tw_t hTw) rfl rfl rfl (Nat.le_of_ble_eq_true rfl) (by omega) (by decide) (by omega) (by omega) (fun h_58 q_58 k_58 => ?_) (fun _ _ q _ => False.elim q)
        obtain ⟨p3, p4⟩ := q_58
        have hS3 := hS2.tr (cW_5 p4)
        rw [r2, hr, ← hnx] at p3
        have T3 := T.same (B' := B + 20000 * w.toNat) hS3 (by rw [p3]; exact ok8.1)
        have hTw := T3.k.tw
        have e0 : gI h_58 (1, 5) 0 = R 0 := by rw [p3]; exact ok8.2 0 (by decide)
        have e1' : gI h_58 (1, 5) 1 = R 1 := by rw [p3]; exact ok8.2 1 (by decide)
        have e0' : gI h' (1, 5) 0 = R 0 := by rw [hr]; exact ok9.2 0 (by decide)
        have e1'' : gI h' (1, 5) 1 = R 1 := by rw [hr]; exact ok9.2 1 (by decide)
        have h7' : gI h_58 (1, 7) = R := (p4.row fun _ => n0j (by decide) (by decide) (by decide)).trans ((p1.row fun _ => n1 (by decide)).trans h7)
        refine zs_aload_n hΓ dX5_rests_61 (pc' := 62) rfl rfl rfl ?_
        refine zs_aload_n hΓ dX5_rests_62 (pc' := 63) rfl rfl rfl ?_
        refine zs_getrE hΓ dX5_rests_63 (pc' := 66) rfl fX5_92 (i9 := 44) rfl rfl (tw_t hTw) (tw_p44 hTw) ?_
        refine zs_callVIP hΓ dX5_rests_66 (pc' := 69) rfl kX5_455 (con_X5_isNoted l hTw T3.k.ok.hd.rw (fun c => sWorn (gI h' (1, 5)) b c) (fun c c1 c2 => by rw [e0, e1'] at c2; rw [p4.2.2 _ _ (n0j (by decide) (by decide) (by decide)), p2 c c1 (by rw [e0', e1'']; exact c2), T'.k.b28])) (tw_t hTw) rfl rfl rfl (Nat.le_of_ble_eq_true rfl) (by omega) (by decide) (by omega) (by omega) ?_ (fun _ _ q _ => False.elim q)
        refine zs_eqI (y := iB (p w)) (iB_iff (by rw [hpe, sSameW, ← hr, ← p3, e0, e1', e0', e1'', T3.k.b28])) ?_
        refine zs_ifeq hΓ dX5_rests_69 (tgt := 75) (by decide) (pc' := 72) rfl (fun c_69 => ?_) (fun c_69 => ?_)
        · try have c_69 := iB_eq c_69
          refine zs_iinc hΓ dX5_rests_75 (pc' := 78) rfl (L' := [some (zR _), some (zI _), some (zI _), some (zI _), some (zI _)]) rfl (by unfold inI; omega) (by decide) rfl rfl ?_
          refine zs_goto hΓ dX5_rests_78 (tgt := 38) (by decide) ?_
          exact ih (w + 1) _ _ (by omega) (by omega) hS3 h7' (by rw [p3, show w + 1 - 1 = w by omega]) (by rcases hf with ⟨f1, f2⟩ | ⟨f1, f2⟩; exact Or.inl ⟨f1, by rw [f2, hu, zIf_f c_69]⟩; omega)
        · try have c_69 := iB_ne c_69
          refine zs_iload hΓ dX5_rests_72 (pc' := 74) rfl rfl ?_
          refine zs_istore_n hΓ dX5_rests_74 (pc' := 75) rfl (L' := [some (zR _), some (zI _), some (zI _), some (zI _), some (zI _)]) rfl (by decide) rfl rfl ?_
          refine zs_iinc hΓ dX5_rests_75 (pc' := 78) rfl (L' := [some (zR _), some (zI _), some (zI _), some (zI _), some (zI _)]) rfl (by unfold inI; omega) (by decide) rfl rfl ?_
          refine zs_goto hΓ dX5_rests_78 (tgt := 38) (by decide) ?_
          exact ih (w + 1) _ _ (by omega) (by omega) hS3 h7' (by rw [p3, show w + 1 - 1 = w by omega]) (by rcases hf with ⟨f1, f2⟩ | ⟨f1, f2⟩; exact Or.inr ⟨by omega, by rw [f2, hu, zIf_t c_69]⟩; omega)
  refine zs_aload_n hΓ dX5_rests_0 (pc' := 1) rfl rfl rfl ?_
  refine zs_iconst hΓ dX5_rests_1 (pc' := 2) rfl ⟨by decide, by decide⟩ ?_
  refine zs_puti hΓ dX5_rests_2 (pc' := 5) rfl fX5_1 (fun q hq => (by cases hq; exact Or.inl rfl)) (i9 := 0) rfl trivial (tw_t hTw) (show (0 : Int) ≤ 1 by decide) ?_
  rw [← e1]; have hTw := T.k.tw
  refine zs_iload_n hΓ dX5_rests_5 (pc' := 6) rfl rfl rfl ?_
  refine zs_iconst hΓ dX5_rests_6 (pc' := 7) rfl ⟨by decide, by decide⟩ ?_
  refine zs_bipush hΓ dX5_rests_7 (pc' := 9) rfl ⟨by decide, by decide⟩ ?_
  refine zs_callSIP hΓ dX5_rests_9 (pc' := 12) rfl kX5_132 (con_X5_isIn l _ _ _) rfl rfl (Nat.le_of_ble_eq_true rfl) (by omega) (by decide) (by omega) (by omega) ?_ (fun _ _ q _ => False.elim q)
  refine zs_ifeq hΓ dX5_rests_12 (tgt := 26) (by decide) (pc' := 15) rfl (fun c_12 => ?_) (fun c_12 => ?_)
  · try have c_12 := iB_eq c_12
    refine zs_bipush hΓ dX5_rests_26 (pc' := 28) rfl ⟨by decide, by decide⟩ ?_
    exact zs_iret hΓ dX5_rests_28 rfl (by omega) (by omega) (⟨_, rfl, fun z => absurd z.1 c_12, fun _ => ⟨rfl, rfl⟩⟩)
  · try have c_12 := iB_ne c_12
    refine zs_iload_n hΓ dX5_rests_15 (pc' := 16) rfl rfl rfl ?_
    refine zs_iconst hΓ dX5_rests_16 (pc' := 17) rfl ⟨by decide, by decide⟩ ?_
    refine zs_sipush hΓ dX5_rests_17 (pc' := 20) rfl ⟨by decide, by decide⟩ ?_
    refine zs_callSIP hΓ dX5_rests_20 (pc' := 23) rfl kX5_132 (con_X5_isIn l _ _ _) rfl rfl (Nat.le_of_ble_eq_true rfl) (by omega) (by decide) (by omega) (by omega) ?_ (fun _ _ q _ => False.elim q)
    refine zs_ifne hΓ dX5_rests_23 (tgt := 29) (by decide) (pc' := 26) rfl (fun c_23 => ?_) (fun c_23 => ?_)
    · try have c_23 := iB_ne c_23
      refine zs_aload_n hΓ dX5_rests_29 (pc' := 30) rfl rfl rfl ?_
      refine zs_callVV hΓ dX5_rests_30 (pc' := 33) rfl kX5_445 (con_X5_layAside l hTw) (tw_t hTw) rfl rfl rfl (Nat.le_of_ble_eq_true rfl) (by omega) (by decide) (by omega) (by omega) (fun h_30 q_30 k_30 => ?_) (fun _ _ q _ => False.elim q)
      obtain ⟨p1, p2⟩ := q_30
      refine zs_iconst hΓ dX5_rests_33 (pc' := 34) rfl ⟨by decide, by decide⟩ ?_
      refine zs_istore_n hΓ dX5_rests_34 (pc' := 35) rfl (L' := [some (zR _), some (zI _), some (zI _), some (zI _), none]) rfl (by decide) rfl rfl ?_
      refine zs_iconst hΓ dX5_rests_35 (pc' := 36) rfl ⟨by decide, by decide⟩ ?_
      refine zs_istore hΓ dX5_rests_36 (pc' := 38) rfl (L' := [some (zR _), some (zI _), some (zI _), some (zI _), some (zI _)]) (by decide) rfl rfl ?_
      exact lp ⟨c_12, c_23⟩ weeks.toNat 1 (-1) _ (by omega) (by omega) (c1_5 p1 (by decide)) (by rw [p2, hR]) (by rw [p1.row fun _ => n1 (by decide)]; exact hR) (Or.inl ⟨rfl, rfl⟩)
    · try have c_23 := iB_eq c_23
      refine zs_bipush hΓ dX5_rests_26 (pc' := 28) rfl ⟨by decide, by decide⟩ ?_
      exact zs_iret hΓ dX5_rests_28 rfl (by omega) (by omega) (⟨_, rfl, fun z => absurd z.2 c_23, fun _ => ⟨rfl, rfl⟩⟩)
