/-! THE TWIN, M: cases: lasts, paved, wait, fences -/
set_option maxRecDepth 100000
theorem RowOK.gone {B kx : Int} {R : Int → Int} (h : RowOK B kx R) {k : Int} (hk : 0 ≤ k ∧ k < R 12) : RowOK B kx (upR R (13 + 6 * k + 5) 0) := by
  have hm := h.hd.wm
  have ok := h.hd
  have lo : ∀ j, j ≠ 13 + 6 * k + 5 → upR R (13 + 6 * k + 5) 0 j = R j := fun j hj => upR_n _ _ hj
  have ct := h.ct
  have wk := h.wk
  have cl := h.cl
  refine RowOK.mk (RHd.mk ?_ ?_ ?_ ?_ ?_ ?_) ?_ ?_ (cl.congr fun j hj => lo j (by omega))
  · rw [RW, lo 0 (by omega), lo 1 (by omega)]; exact ok.rw
  · rw [lo 2 (by omega)]; exact ok.d
  · intro i i1 i2
    rw [lo 2 (by omega)] at i2
    have hd := ok.d
    have h9 := ok.dc i i1 i2
    rw [lo (3 + i) (by omega), lo 0 (by omega), lo 1 (by omega)]
    refine ⟨h9.1, ?_⟩
    have := h9.2
    rw [sBears, show cel (upR R (13 + 6 * k + 5) 0) (R (3 + i)) 0 = cel R (R (3 + i)) 0 from lo _ (by omega)]
    exact this
  · intro i j i1 i2 i3
    rw [lo 2 (by omega)] at i3
    have hd := ok.d
    rw [lo (3 + i) (by omega), lo (3 + j) (by omega)]
    exact ok.dd i j i1 i2 i3
  · rw [lo 12 (by omega)]; exact ok.wm
  · intro i i1 i2
    rw [lo 12 (by omega)] at i2
    have h9 := ok.ws i i1 i2
    rw [lo (13 + 6 * i) (by omega), lo (13 + 6 * i + 1) (by omega), lo (13 + 6 * i + 2) (by omega), lo (13 + 6 * i + 3) (by omega), lo (13 + 6 * i + 4) (by omega), lo 2 (by omega)]
    refine ⟨h9.1, h9.2.1, h9.2.2.1, h9.2.2.2.1, h9.2.2.2.2.1, ?_⟩
    by_cases e : i = k
    · rw [e, upR_s]; decide
    · rw [lo _ (by omega)]; exact h9.2.2.2.2.2
  · obtain ⟨w1, w2⟩ := wk
    unfold RWk
    rw [lo 157 (by omega), lo 0 (by omega), lo 1 (by omega), lo 12 (by omega)]
    refine ⟨w1, fun i i1 i2 => ?_⟩
    rw [lo _ (by omega), lo _ (by omega), lo _ (by omega), lo _ (by omega), lo _ (by omega)]
    exact w2 i i1 i2
  · unfold RCt at ct ⊢
    rw [lo 518 (by omega), lo 519 (by omega), lo 520 (by omega), lo 521 (by omega)]
    exact ct
noncomputable def sLasts (g : (Int → Int) → (Int → Int)) (b k c weeks : Int) (R : Int → Int) : Int := zIf (sWorn R b c) (sUp (fun w => ¬ sWorn (sWks g w.toNat (upR R (13 + 6 * k + 5) 0)) b c) weeks.toNat 1) 0
abbrev okLasts (R : Int → Int) (k c weeks ticks : Int) : Prop := ((0 ≤ k ∧ k ≤ R 12 - 1) ∧ R (13 + 6 * k + 5) = 1) ∧ sIsCell R c ∧ (1 ≤ weeks ∧ weeks ≤ 40) ∧ 1 ≤ ticks ∧ ticks ≤ 200
theorem con_X5_lasts (l : Launch) {h h1 : zH} (e1 : h1 = setI h (1, 0) 0 0) {B b mu dry : Int} {tx0 : zTx} {hs : Int → zTx} (T : TwD h1 B b mu dry tx0 hs) (hB : B ≤ 600000000) (k c weeks ticks : Int) : Con l mX5_lasts 11 0 0 [zR (some (1, 0)), zI k, zI c, zI weeks, zI ticks] h (rI fun x h' => (okLasts (gI h1 (1, 5)) k c weeks ticks → x = sLasts (sGo b mu dry tx0 hs ticks.toNat) b k c weeks (gI h1 (1, 5)) ∧ Same cC h1 h') ∧ (¬ okLasts (gI h1 (1, 5)) k c weeks ticks → x = -2 ∧ h' = h1)) zNo := by
  refine Con.ofS (by decide +kernel) (Nat.le_of_ble_eq_true rfl) fun Γ hΓ hno hwf hav => ?_
  have hΓ : Ctx Γ l cX5_lasts RX5 "lasts" 7 (Option.some Jvm.ClassFile.FieldType.int) _ _ 11 _ _ := hΓ
  show SS Γ 0 [some (zR _), some (zI _), some (zI _), some (zI _), some (zI _), none, none] [] _ 0 0
  have hTw := T.k.tw.thr e1
  have hok := T.k.ok
  have hwm := hok.hd.wm
  generalize hR : gI h1 (1, 5) = R at *
  have hcs := hok.hd.rw.c
  generalize hp : (fun w : Int => ¬ sWorn (sWks (sGo b mu dry tx0 hs ticks.toNat) w.toNat (upR R (13 + 6 * k + 5) 0)) b c) = p
  have hpe : ∀ w, p w ↔ ¬ sWorn (sWks (sGo b mu dry tx0 hs ticks.toNat) w.toNat (upR R (13 + 6 * k + 5) 0)) b c := fun w => by rw [← hp]
  have hT : sLasts (sGo b mu dry tx0 hs ticks.toNat) b k c weeks R = zIf (sWorn R b c) (sUp p weeks.toNat 1) 0 := by unfold sLasts; rw [hp]
  have lp : okLasts R k c weeks ticks → sWorn R b c → ∀ (m : Nat) (w f : Int) (h' : zH), w + m = weeks + 1 → 1 ≤ w → Same cC5 h1 h' → gI h' (1, 7) = R → gI h' (1, 5) = sWks (sGo b mu dry tx0 hs ticks.toNat) (w - 1).toNat (upR R (13 + 6 * k + 5) 0) → ((f = -1 ∧ sUp p weeks.toNat 1 = sUp p m w) ∨ (0 ≤ f ∧ sUp p weeks.toNat 1 = f)) → SS Γ 81 [some (zR (some (1, 0))), some (zI k), some (zI c), some (zI weeks), some (zI ticks), some (zI f), some (zI w)] [] h' 0 0 := by
    intro hc hwo m
    have ok0 := hok.gone (k := k) (by omega)
    induction m with
    | zero =>
      intro w f h' hi hw hS h7 hr hf
      have T' := T.same (B' := B + 20000 * (w - 1).toNat) hS (by rw [hr]; exact (RowOK.wks (b := b) (mu := mu) (hs := hs) T.k.t0.wf T.hd ok0 (by omega) (w - 1).toNat).1)
      have hTw := T'.k.tw
      refine zs_iload hΓ dX5_lasts_81 (pc' := 83) rfl rfl ?_
      refine zs_iload_n hΓ dX5_lasts_83 (pc' := 84) rfl rfl rfl ?_
      refine zs_icmpgt hΓ dX5_lasts_84 (tgt := 116) (by decide) (pc' := 87) rfl (fun c_84 => ?_) (fun c_84 => False.elim (absurd c_84 (by omega)))
      refine zs_aload_n hΓ dX5_lasts_116 (pc' := 117) rfl rfl rfl ?_
      refine zs_callVV hΓ dX5_lasts_117 (pc' := 120) rfl kX5_459 (con_X5_layBack l hTw) (tw_t hTw) rfl rfl rfl (Nat.le_of_ble_eq_true rfl) (by omega) (by decide) (by omega) (by omega) (fun h_117 q_117 k_117 => ?_) (fun _ _ q _ => False.elim q)
      obtain ⟨p1, p2⟩ := q_117
      refine zs_iload hΓ dX5_lasts_120 (pc' := 122) rfl rfl ?_
      exact zs_iret hΓ dX5_lasts_122 rfl (by omega) (by omega) (⟨_, rfl, fun _ => ⟨by rw [hT, zIf_t hwo]; rcases hf with ⟨f1, f2⟩ | ⟨f1, f2⟩; rw [f2, f1]; rfl; exact f2.symm, cC5_back (hS.tr (c1_5 p1 (by decide))) (by rw [p2, h7, hR])⟩, fun z => absurd hc z⟩)
    | succ m ih =>
      intro w f h' hi hw hS h7 hr hf
      have ok9 := RowOK.wks (b := b) (mu := mu) (hs := hs) (t := ticks.toNat) T.k.t0.wf T.hd ok0 (by omega) (w - 1).toNat
      have ok8 := RowOK.wks (b := b) (mu := mu) (hs := hs) (t := ticks.toNat) T.k.t0.wf T.hd ok0 (by omega) w.toNat
      have T' := T.same (B' := B + 20000 * (w - 1).toNat) hS (by rw [hr]; exact ok9.1)
      have hTw := T'.k.tw
      have hnx : sWks (sGo b mu dry tx0 hs ticks.toNat) w.toNat (upR R (13 + 6 * k + 5) 0) = sGo b mu dry tx0 hs ticks.toNat (sWks (sGo b mu dry tx0 hs ticks.toNat) (w - 1).toNat (upR R (13 + 6 * k + 5) 0)) := by rw [show w.toNat = (w - 1).toNat + 1 by omega]; rfl
      have hu : sUp p (m + 1) w = zIf (p w) w (sUp p m (w + 1)) := rfl
      refine zs_iload hΓ dX5_lasts_81 (pc' := 83) rfl rfl ?_
      refine zs_iload_n hΓ dX5_lasts_83 (pc' := 84) rfl rfl rfl ?_
      refine zs_icmpgt hΓ dX5_lasts_84 (tgt := 116) (by decide) (pc' := 87) rfl (fun c_84 => False.elim (absurd c_84 (by omega))) (fun c_84 => ?_)
      refine zs_iload hΓ dX5_lasts_87 (pc' := 89) rfl rfl ?_
      refine zs_ifge hΓ dX5_lasts_89 (tgt := 116) (by decide) (pc' := 92) rfl (fun c_89 => ?_) (fun c_89 => ?_)
      · refine zs_aload_n hΓ dX5_lasts_116 (pc' := 117) rfl rfl rfl ?_
        refine zs_callVV hΓ dX5_lasts_117 (pc' := 120) rfl kX5_459 (con_X5_layBack l hTw) (tw_t hTw) rfl rfl rfl (Nat.le_of_ble_eq_true rfl) (by omega) (by decide) (by omega) (by omega) (fun h_117 q_117 k_117 => ?_) (fun _ _ q _ => False.elim q)
        obtain ⟨p1, p2⟩ := q_117
        refine zs_iload hΓ dX5_lasts_120 (pc' := 122) rfl rfl ?_
        exact zs_iret hΓ dX5_lasts_122 rfl (by omega) (by omega) (⟨_, rfl, fun _ => ⟨by rw [hT, zIf_t hwo]; rcases hf with ⟨f1, f2⟩ | ⟨f1, f2⟩; omega; exact f2.symm, cC5_back (hS.tr (c1_5 p1 (by decide))) (by rw [p2, h7, hR])⟩, fun z => absurd hc z⟩)
      · refine zs_aload_n hΓ dX5_lasts_92 (pc' := 93) rfl rfl rfl ?_
        refine zs_iload hΓ dX5_lasts_93 (pc' := 95) rfl rfl ?_
        refine zs_callVV hΓ dX5_lasts_95 (pc' := 98) rfl kX5_452 (con_X5_go l T' (by omega) ticks (by omega)) (tw_t hTw) rfl rfl rfl (Nat.le_of_ble_eq_true rfl) (by omega) (by decide) (by omega) (by omega) (fun h_95 q_95 k_95 => ?_) (fun _ _ q _ => False.elim q)
        obtain ⟨p3, p4⟩ := q_95
        have hS3 := hS.tr (cW_5 p4)
        rw [hr, ← hnx] at p3
        have T3 := T.same (B' := B + 20000 * w.toNat) hS3 (by rw [p3]; exact ok8.1)
        have hTw := T3.k.tw
        have h7' : gI h_95 (1, 7) = R := (p4.row fun _ => n0j (by decide) (by decide) (by decide)).trans h7
        refine zs_aload_n hΓ dX5_lasts_98 (pc' := 99) rfl rfl rfl ?_
        refine zs_iload_n hΓ dX5_lasts_99 (pc' := 100) rfl rfl rfl ?_
        refine zs_callVIP hΓ dX5_lasts_100 (pc' := 103) rfl kX5_140 (con_X5_isWorn l hTw c (by omega)) (tw_t hTw) rfl rfl rfl (Nat.le_of_ble_eq_true rfl) (by omega) (by decide) (by omega) (by omega) ?_ (fun _ _ q _ => False.elim q)
        rw [T3.k.b28, p3]
        refine zs_ifne hΓ dX5_lasts_103 (tgt := 110) (by decide) (pc' := 106) rfl (fun c_103 => ?_) (fun c_103 => ?_)
        · try have c_103 := iB_ne c_103
          refine zs_iinc hΓ dX5_lasts_110 (pc' := 113) rfl (L' := [some (zR _), some (zI _), some (zI _), some (zI _), some (zI _), some (zI _), some (zI _)]) rfl (by unfold inI; omega) (by decide) rfl rfl ?_
          refine zs_goto hΓ dX5_lasts_113 (tgt := 81) (by decide) ?_
          exact ih (w + 1) _ _ (by omega) (by omega) hS3 h7' (by rw [p3, show w + 1 - 1 = w by omega]) (by rcases hf with ⟨f1, f2⟩ | ⟨f1, f2⟩; exact Or.inl ⟨f1, by rw [f2, hu, zIf_f (fun z => (hpe w).mp z c_103)]⟩; omega)
        · try have c_103 := iB_eq c_103
          refine zs_iload hΓ dX5_lasts_106 (pc' := 108) rfl rfl ?_
          refine zs_istore hΓ dX5_lasts_108 (pc' := 110) rfl (L' := [some (zR _), some (zI _), some (zI _), some (zI _), some (zI _), some (zI _), some (zI _)]) (by decide) rfl rfl ?_
          refine zs_iinc hΓ dX5_lasts_110 (pc' := 113) rfl (L' := [some (zR _), some (zI _), some (zI _), some (zI _), some (zI _), some (zI _), some (zI _)]) rfl (by unfold inI; omega) (by decide) rfl rfl ?_
          refine zs_goto hΓ dX5_lasts_113 (tgt := 81) (by decide) ?_
          exact ih (w + 1) _ _ (by omega) (by omega) hS3 h7' (by rw [p3, show w + 1 - 1 = w by omega]) (by rcases hf with ⟨f1, f2⟩ | ⟨f1, f2⟩; exact Or.inr ⟨by omega, by rw [f2, hu, zIf_t ((hpe w).mpr c_103)]⟩; omega)
  refine zs_aload_n hΓ dX5_lasts_0 (pc' := 1) rfl rfl rfl ?_
  refine zs_iconst hΓ dX5_lasts_1 (pc' := 2) rfl ⟨by decide, by decide⟩ ?_
  refine zs_puti hΓ dX5_lasts_2 (pc' := 5) rfl fX5_1 (fun q hq => (by cases hq; exact Or.inl rfl)) (i9 := 0) rfl trivial (tw_t hTw) (show (0 : Int) ≤ 1 by decide) ?_
  rw [← e1]; have hTw := T.k.tw
  refine zs_aload_n hΓ dX5_lasts_5 (pc' := 6) rfl rfl rfl ?_
  refine zs_iload_n hΓ dX5_lasts_6 (pc' := 7) rfl rfl rfl ?_
  refine zs_callVIP hΓ dX5_lasts_7 (pc' := 10) rfl kX5_344 (con_X5_isWish l hTw k (by rw [hR]; exact hwm)) (tw_t hTw) rfl rfl rfl (Nat.le_of_ble_eq_true rfl) (by omega) (by decide) (by omega) (by omega) ?_ (fun _ _ q _ => False.elim q)
  rw [hR]
  refine zs_ifeq hΓ dX5_lasts_10 (tgt := 43) (by decide) (pc' := 13) rfl (fun c_10 => ?_) (fun c_10 => ?_)
  · try have c_10 := iB_eq c_10
    refine zs_bipush hΓ dX5_lasts_43 (pc' := 45) rfl ⟨by decide, by decide⟩ ?_
    exact zs_iret hΓ dX5_lasts_45 rfl (by omega) (by omega) (⟨_, rfl, fun z => absurd z.1 c_10, fun _ => ⟨rfl, rfl⟩⟩)
  · try have c_10 := iB_ne c_10
    refine zs_aload_n hΓ dX5_lasts_13 (pc' := 14) rfl rfl rfl ?_
    refine zs_iload_n hΓ dX5_lasts_14 (pc' := 15) rfl rfl rfl ?_
    refine zs_callVIP hΓ dX5_lasts_15 (pc' := 18) rfl kX5_155 (con_X5_isCell l hTw (by rw [hR]; exact hok.hd.rw) c) (tw_t hTw) rfl rfl rfl (Nat.le_of_ble_eq_true rfl) (by omega) (by decide) (by omega) (by omega) ?_ (fun _ _ q _ => False.elim q)
    rw [hR]
    refine zs_ifeq hΓ dX5_lasts_18 (tgt := 43) (by decide) (pc' := 21) rfl (fun c_18 => ?_) (fun c_18 => ?_)
    · try have c_18 := iB_eq c_18
      refine zs_bipush hΓ dX5_lasts_43 (pc' := 45) rfl ⟨by decide, by decide⟩ ?_
      exact zs_iret hΓ dX5_lasts_45 rfl (by omega) (by omega) (⟨_, rfl, fun z => absurd z.2.1 c_18, fun _ => ⟨rfl, rfl⟩⟩)
    · try have c_18 := iB_ne c_18
      refine zs_iload_n hΓ dX5_lasts_21 (pc' := 22) rfl rfl rfl ?_
      refine zs_iconst hΓ dX5_lasts_22 (pc' := 23) rfl ⟨by decide, by decide⟩ ?_
      refine zs_bipush hΓ dX5_lasts_23 (pc' := 25) rfl ⟨by decide, by decide⟩ ?_
      refine zs_callSIP hΓ dX5_lasts_25 (pc' := 28) rfl kX5_132 (con_X5_isIn l _ _ _) rfl rfl (Nat.le_of_ble_eq_true rfl) (by omega) (by decide) (by omega) (by omega) ?_ (fun _ _ q _ => False.elim q)
      refine zs_ifeq hΓ dX5_lasts_28 (tgt := 43) (by decide) (pc' := 31) rfl (fun c_28 => ?_) (fun c_28 => ?_)
      · try have c_28 := iB_eq c_28
        refine zs_bipush hΓ dX5_lasts_43 (pc' := 45) rfl ⟨by decide, by decide⟩ ?_
        exact zs_iret hΓ dX5_lasts_45 rfl (by omega) (by omega) (⟨_, rfl, fun z => absurd z.2.2.1 c_28, fun _ => ⟨rfl, rfl⟩⟩)
      · try have c_28 := iB_ne c_28
        refine zs_iload hΓ dX5_lasts_31 (pc' := 33) rfl rfl ?_
        refine zs_iconst hΓ dX5_lasts_33 (pc' := 34) rfl ⟨by decide, by decide⟩ ?_
        refine zs_sipush hΓ dX5_lasts_34 (pc' := 37) rfl ⟨by decide, by decide⟩ ?_
        refine zs_callSIP hΓ dX5_lasts_37 (pc' := 40) rfl kX5_132 (con_X5_isIn l _ _ _) rfl rfl (Nat.le_of_ble_eq_true rfl) (by omega) (by decide) (by omega) (by omega) ?_ (fun _ _ q _ => False.elim q)
        refine zs_ifne hΓ dX5_lasts_40 (tgt := 46) (by decide) (pc' := 43) rfl (fun c_40 => ?_) (fun c_40 => ?_)
        · try have c_40 := iB_ne c_40
          refine zs_aload_n hΓ dX5_lasts_46 (pc' := 47) rfl rfl rfl ?_
          refine zs_iload_n hΓ dX5_lasts_47 (pc' := 48) rfl rfl rfl ?_
          refine zs_callVIP hΓ dX5_lasts_48 (pc' := 51) rfl kX5_140 (con_X5_isWorn l hTw c (by omega)) (tw_t hTw) rfl rfl rfl (Nat.le_of_ble_eq_true rfl) (by omega) (by decide) (by omega) (by omega) ?_ (fun _ _ q _ => False.elim q)
          rw [hR, T.k.b28]
          refine zs_ifne hΓ dX5_lasts_51 (tgt := 56) (by decide) (pc' := 54) rfl (fun c_51 => ?_) (fun c_51 => ?_)
          · try have c_51 := iB_ne c_51
            refine zs_aload_n hΓ dX5_lasts_56 (pc' := 57) rfl rfl rfl ?_
            refine zs_callVV hΓ dX5_lasts_57 (pc' := 60) rfl kX5_445 (con_X5_layAside l hTw) (tw_t hTw) rfl rfl rfl (Nat.le_of_ble_eq_true rfl) (by omega) (by decide) (by omega) (by omega) (fun h_57 q_57 k_57 => ?_) (fun _ _ q _ => False.elim q)
            obtain ⟨p1, p2⟩ := q_57
            have hTw := hTw.same p1
            refine zs_aload_n hΓ dX5_lasts_60 (pc' := 61) rfl rfl rfl ?_
            refine zs_getrE hΓ dX5_lasts_61 (pc' := 64) rfl fX5_30 (i9 := 5) rfl rfl (tw_t hTw) (tw_p5 hTw) ?_
            refine zs_bipush hΓ dX5_lasts_64 (pc' := 66) rfl ⟨by decide, by decide⟩ ?_
            refine zs_bipush hΓ dX5_lasts_66 (pc' := 68) rfl ⟨by decide, by decide⟩ ?_
            refine zs_iload_n hΓ dX5_lasts_68 (pc' := 69) rfl rfl rfl ?_
            refine zs_imul hΓ dX5_lasts_69 (pc' := 70) rfl (by unfold inI; omega) ?_
            refine zs_iadd hΓ dX5_lasts_70 (pc' := 71) rfl (by unfold inI; omega) ?_
            refine zs_iconst hΓ dX5_lasts_71 (pc' := 72) rfl ⟨by decide, by decide⟩ ?_
            refine zs_iadd hΓ dX5_lasts_72 (pc' := 73) rfl (by unfold inI; omega) ?_
            refine zs_iconst hΓ dX5_lasts_73 (pc' := 74) rfl ⟨by decide, by decide⟩ ?_
            refine zs_iast hΓ dX5_lasts_74 (pc' := 75) rfl (tw_a5 hTw) (show (0 : Int) ≤ 1 by decide) (by omega) (by omega) ?_
            refine zs_iconst hΓ dX5_lasts_75 (pc' := 76) rfl ⟨by decide, by decide⟩ ?_
            refine zs_istore hΓ dX5_lasts_76 (pc' := 78) rfl (L' := [some (zR _), some (zI _), some (zI _), some (zI _), some (zI _), some (zI _), none]) (by decide) rfl rfl ?_
            refine zs_iconst hΓ dX5_lasts_78 (pc' := 79) rfl ⟨by decide, by decide⟩ ?_
            refine zs_istore hΓ dX5_lasts_79 (pc' := 81) rfl (L' := [some (zR _), some (zI _), some (zI _), some (zI _), some (zI _), some (zI _), some (zI _)]) (by decide) rfl rfl ?_
            exact lp ⟨c_10, c_18, c_28, c_40⟩ c_51 weeks.toNat 1 (-1) _ (by omega) (by omega) ((c1_5 p1 (by decide)).set (cC5_in (by omega))) (by rw [gI_ot _ _ _ (n1 (by decide)), p2, hR]) (by rw [gI_up, p1.row fun _ => n1 (by decide), hR]; rfl) (Or.inl ⟨rfl, rfl⟩)
          · try have c_51 := iB_eq c_51
            refine zs_iconst hΓ dX5_lasts_54 (pc' := 55) rfl ⟨by decide, by decide⟩ ?_
            exact zs_iret hΓ dX5_lasts_55 rfl (by omega) (by omega) (⟨_, rfl, fun _ => ⟨by rw [hT, zIf_f c_51], Same.rf _ _⟩, fun z => absurd ⟨c_10, c_18, c_28, c_40⟩ z⟩)
        · try have c_40 := iB_eq c_40
          refine zs_bipush hΓ dX5_lasts_43 (pc' := 45) rfl ⟨by decide, by decide⟩ ?_
          exact zs_iret hΓ dX5_lasts_45 rfl (by omega) (by omega) (⟨_, rfl, fun z => absurd z.2.2.2 c_40, fun _ => ⟨rfl, rfl⟩⟩)
/-- worn behind w weeks -/
abbrev sPv (g : (Int → Int) → (Int → Int)) (b w : Int) (R : Int → Int) (c : Int) : Prop := sWorn (sWks g w.toNat R) b c
noncomputable def sPv0 (g : (Int → Int) → (Int → Int)) (b w : Int) (R : Int → Int) : Int := cntP (fun c => sPv g b w R c) (R 0 * R 1).toNat
noncomputable def sPvD (g : (Int → Int) → (Int → Int)) (b w w' : Int) (R : Int → Int) : Int := cntP (fun c => sPv g b w R c ∧ ¬ sPv g b w' R c) (R 0 * R 1).toNat
theorem con_X5_pave (l : Launch) {h : zH} {B b mu dry : Int} {tx0 : zTx} {hs : Int → zTx} (T : TwD h B b mu dry tx0 hs) (hB : B ≤ 600000000) (w weeks ticks : Int) (hw : 1 ≤ w ∧ w ≤ weeks) (hk : weeks ≤ 20) (ht : 1 ≤ ticks ∧ ticks ≤ 200) : Con l mX5_pave 11 0 0 [zR (some (1, 0)), zI w, zI weeks, zI ticks] h (rV fun h' => Same cC h h' ∧ gI h' (1, 0) 49 = sPv0 (sGo b mu dry tx0 hs ticks.toNat) b w (gI h (1, 5)) ∧ gI h' (1, 0) 50 = sPvD (sGo b mu dry tx0 hs ticks.toNat) b w weeks (gI h (1, 5)) ∧ gI h' (1, 0) 51 = sPvD (sGo b mu dry tx0 hs ticks.toNat) b weeks w (gI h (1, 5))) zNo := by
  refine Con.ofS (by decide +kernel) (Nat.le_of_ble_eq_true rfl) fun Γ hΓ hno hwf hav => ?_
  have hΓ : Ctx Γ l cX5_pave RX5 "pave" 5 (Option.none : Option Jvm.ClassFile.FieldType) _ _ 11 _ _ := hΓ
  show SS Γ 0 [some (zR _), some (zI _), some (zI _), some (zI _), none] [] _ 0 0
  have hok := T.k.ok
  generalize hR : gI h (1, 5) = R at *
  have hcs := hok.hd.rw.c
  generalize hD : (fun c => sPv (sGo b mu dry tx0 hs ticks.toNat) b w R c) = D
  generalize hE : (fun c => sPv (sGo b mu dry tx0 hs ticks.toNat) b weeks R c) = E
  have t0 : sPv0 (sGo b mu dry tx0 hs ticks.toNat) b w R = cntP D (R 0 * R 1).toNat := by rw [← hD]; rfl
  have t1 : sPvD (sGo b mu dry tx0 hs ticks.toNat) b w weeks R = cntP (fun c => D c ∧ ¬ E c) (R 0 * R 1).toNat := by rw [← hD, ← hE]; rfl
  have t2 : sPvD (sGo b mu dry tx0 hs ticks.toNat) b weeks w R = cntP (fun c => E c ∧ ¬ D c) (R 0 * R 1).toNat := by rw [← hD, ← hE]; rfl
  have hDe : ∀ c, D c ↔ sWorn (sWks (sGo b mu dry tx0 hs ticks.toNat) w.toNat R) b c := fun c => by rw [← hD]
  have hEe : ∀ c, E c ↔ sWorn (sWks (sGo b mu dry tx0 hs ticks.toNat) weeks.toNat R) b c := fun c => by rw [← hE]
  have okE := RowOK.wks (b := b) (mu := mu) (hs := hs) (t := ticks.toNat) T.k.t0.wf T.hd hok (by omega) weeks.toNat
  have lp2 : ∀ (m : Nat) (i : Int) (h' : zH), i + m = R 0 * R 1 → 0 ≤ i → Same cC5 h h' → gI h' (1, 7) = R → gI h' (1, 5) = sWks (sGo b mu dry tx0 hs ticks.toNat) weeks.toNat R → (∀ c, 0 ≤ c → c < R 0 * R 1 → gI h' (1, 46) c = iB (D c)) → (∀ c, 0 ≤ c → c < R 0 * R 1 → gI h' (1, 45) c = iB (E c)) → gI h' (1, 0) 49 = cntP D i.toNat → gI h' (1, 0) 50 = cntP (fun c => D c ∧ ¬ E c) i.toNat → gI h' (1, 0) 51 = cntP (fun c => E c ∧ ¬ D c) i.toNat → SS Γ 64 [some (zR (some (1, 0))), some (zI w), some (zI weeks), some (zI ticks), some (zI i)] [] h' 0 0 := by
    intro m
    induction m with
    | zero =>
      intro i h' hi hi0 hS h7 hr h46 h45 e49 e50 e51
      have T' := T.same (B' := B + 20000 * weeks.toNat) hS (by rw [hr]; exact okE.1)
      have hTw := T'.k.tw
      have g0 : gI h' (1, 5) 0 = R 0 := by rw [hr]; exact okE.2 0 (by decide)
      have g1 : gI h' (1, 5) 1 = R 1 := by rw [hr]; exact okE.2 1 (by decide)
      refine zs_iload hΓ dX5_pave_64 (pc' := 66) rfl rfl ?_
      refine zs_aload_n hΓ dX5_pave_66 (pc' := 67) rfl rfl rfl ?_
      refine zs_callVIP hΓ dX5_pave_67 (pc' := 70) rfl kX5_128 (con_X5_cells l hTw T'.k.ok.hd.rw) (tw_t hTw) rfl rfl rfl (Nat.le_of_ble_eq_true rfl) (by omega) (by decide) (by omega) (by omega) ?_ (fun _ _ q _ => False.elim q)
      rw [g0, g1]
      refine zs_icmpge hΓ dX5_pave_70 (tgt := 171) (by decide) (pc' := 73) rfl (fun c_70 => ?_) (fun c_70 => False.elim (absurd c_70 (by omega)))
      refine zs_aload_n hΓ dX5_pave_171 (pc' := 172) rfl rfl rfl ?_
      refine zs_callVV hΓ dX5_pave_172 (pc' := 175) rfl kX5_459 (con_X5_layBack l hTw) (tw_t hTw) rfl rfl rfl (Nat.le_of_ble_eq_true rfl) (by omega) (by decide) (by omega) (by omega) (fun h_172 q_172 k_172 => ?_) (fun _ _ q _ => False.elim q)
      obtain ⟨p1, p2⟩ := q_172
      exact zs_vret hΓ dX5_pave_175 rfl (by omega) (by omega) (⟨rfl, cC5_back (hS.tr (c1_5 p1 (by decide))) (by rw [p2, h7, hR]), by rw [p1.2.2 _ _ (n1 (by decide)), e49, t0, show i = R 0 * R 1 by omega], by rw [p1.2.2 _ _ (n1 (by decide)), e50, t1, show i = R 0 * R 1 by omega], by rw [p1.2.2 _ _ (n1 (by decide)), e51, t2, show i = R 0 * R 1 by omega]⟩)
    | succ m ih =>
      intro i h' hi hi0 hS h7 hr h46 h45 e49 e50 e51
      have T' := T.same (B' := B + 20000 * weeks.toNat) hS (by rw [hr]; exact okE.1)
      have hTw := T'.k.tw
      have g0 : gI h' (1, 5) 0 = R 0 := by rw [hr]; exact okE.2 0 (by decide)
      have g1 : gI h' (1, 5) 1 = R 1 := by rw [hr]; exact okE.2 1 (by decide)
      have i46 := h46 i hi0 (by omega)
      have i45 := h45 i hi0 (by omega)
      have s1 := cntP_s D hi0
      have s2 := cntP_s (fun c => D c ∧ ¬ E c) hi0
      have s3 := cntP_s (fun c => E c ∧ ¬ D c) hi0
      have r1 := cntP_r D i.toNat
      have r2 := cntP_r (fun c => D c ∧ ¬ E c) i.toNat
      have r3 := cntP_r (fun c => E c ∧ ¬ D c) i.toNat
      have fin : ∀ d1 d2 d3 : Int, d1 = iB (D i) → d2 = iB (D i ∧ ¬ E i) → d3 = iB (E i ∧ ¬ D i) → SS Γ 64 [some (zR (some (1, 0))), some (zI w), some (zI weeks), some (zI ticks), some (zI (i + 1))] [] (setI (setI (setI h' (1, 0) 49 (cntP D i.toNat + d1)) (1, 0) 50 (cntP (fun c => D c ∧ ¬ E c) i.toNat + d2)) (1, 0) 51 (cntP (fun c => E c ∧ ¬ D c) i.toNat + d3)) 0 0 := by
        intro d1 d2 d3 q1 q2 q3
        refine ih (i + 1) _ (by omega) (by omega) (((hS.set (cC5_in (by decide))).set (cC5_in (by decide))).set (cC5_in (by decide))) ?_ ?_ (fun c c1 c2 => ?_) (fun c c1 c2 => ?_) ?_ ?_ ?_
        · rw [gI_ot _ _ _ (n1 (by decide)), gI_ot _ _ _ (n1 (by decide)), gI_ot _ _ _ (n1 (by decide))]; exact h7
        · rw [gI_ot _ _ _ (n1 (by decide)), gI_ot _ _ _ (n1 (by decide)), gI_ot _ _ _ (n1 (by decide))]; exact hr
        · rw [gI_ot _ _ _ (n1 (by decide)), gI_ot _ _ _ (n1 (by decide)), gI_ot _ _ _ (n1 (by decide))]; exact h46 c c1 c2
        · rw [gI_ot _ _ _ (n1 (by decide)), gI_ot _ _ _ (n1 (by decide)), gI_ot _ _ _ (n1 (by decide))]; exact h45 c c1 c2
        · rw [gI_setI, if_neg (by decide), gI_setI, if_neg (by decide), gI_setI, if_pos ⟨rfl, rfl⟩, s1, q1]
        · rw [gI_setI, if_neg (by decide), gI_setI, if_pos ⟨rfl, rfl⟩, s2, q2]
        · rw [gI_setI, if_pos ⟨rfl, rfl⟩, s3, q3]
      refine zs_iload hΓ dX5_pave_64 (pc' := 66) rfl rfl ?_
      refine zs_aload_n hΓ dX5_pave_66 (pc' := 67) rfl rfl rfl ?_
      refine zs_callVIP hΓ dX5_pave_67 (pc' := 70) rfl kX5_128 (con_X5_cells l hTw T'.k.ok.hd.rw) (tw_t hTw) rfl rfl rfl (Nat.le_of_ble_eq_true rfl) (by omega) (by decide) (by omega) (by omega) ?_ (fun _ _ q _ => False.elim q)
      rw [g0, g1]
      refine zs_icmpge hΓ dX5_pave_70 (tgt := 171) (by decide) (pc' := 73) rfl (fun c_70 => False.elim (absurd c_70 (by omega))) (fun c_70 => ?_)
      refine zs_aload_n hΓ dX5_pave_73 (pc' := 74) rfl rfl rfl ?_
      refine zs_dup hΓ dX5_pave_74 (pc' := 75) rfl  ?_
      refine zs_geti hΓ dX5_pave_75 (pc' := 78) rfl fX5_473 (i9 := 49) rfl rfl (tw_t hTw) ?_
      refine zs_eqI e49 ?_
      refine zs_aload_n hΓ dX5_pave_78 (pc' := 79) rfl rfl rfl ?_
      refine zs_getrE hΓ dX5_pave_79 (pc' := 82) rfl fX5_98 (i9 := 46) rfl rfl (tw_t hTw) (tw_p46 hTw) ?_
      refine zs_iload hΓ dX5_pave_82 (pc' := 84) rfl rfl ?_
      refine zs_zald hΓ dX5_pave_84 (pc' := 85) rfl (tw_a46 hTw) (by omega) (by omega) ?_
      refine zs_eqI i46 ?_
      refine zs_ifeq hΓ dX5_pave_85 (tgt := 92) (by decide) (pc' := 88) rfl (fun c_85 => ?_) (fun c_85 => ?_)
      · have c_85 := iB_eq c_85
        refine zs_iconst hΓ dX5_pave_92 (pc' := 93) rfl ⟨by decide, by decide⟩ ?_
        refine zs_iadd hΓ dX5_pave_93 (pc' := 94) rfl (by unfold inI; omega) ?_
        refine zs_puti hΓ dX5_pave_94 (pc' := 97) rfl fX5_473 (fun q hq => (by cases hq; exact Or.inl rfl)) (i9 := 49) rfl trivial (tw_t hTw) (show (0 : Int) ≤ 1 by decide) ?_
        refine zs_aload_n hΓ dX5_pave_97 (pc' := 98) rfl rfl rfl ?_
        refine zs_dup hΓ dX5_pave_98 (pc' := 99) rfl  ?_
        refine zs_geti hΓ dX5_pave_99 (pc' := 102) rfl fX5_476 (i9 := 50) rfl rfl (tw_t hTw) ?_
        refine zs_eqI (y := cntP (fun c => D c ∧ ¬ E c) i.toNat) (by rw [gI_setI, if_neg (by decide)]; exact e50) ?_
        refine zs_aload_n hΓ dX5_pave_102 (pc' := 103) rfl rfl rfl ?_
        refine zs_getrE hΓ dX5_pave_103 (pc' := 106) rfl fX5_98 (i9 := 46) rfl rfl (tw_t hTw) (tw_p46 hTw) ?_
        refine zs_iload hΓ dX5_pave_106 (pc' := 108) rfl rfl ?_
        refine zs_zald hΓ dX5_pave_108 (pc' := 109) rfl (tw_a46 hTw) (by omega) (by omega) ?_
        refine zs_eqI (y := iB (D i)) (by rw [gI_ot _ _ _ (n1 (by decide))]; exact i46) ?_
        refine zs_ifeq hΓ dX5_pave_109 (tgt := 126) (by decide) (pc' := 112) rfl (fun c_109 => ?_) (fun c_109 => ?_)
        · have c_109 := iB_eq c_109
          refine zs_iconst hΓ dX5_pave_126 (pc' := 127) rfl ⟨by decide, by decide⟩ ?_
          refine zs_iadd hΓ dX5_pave_127 (pc' := 128) rfl (by unfold inI; omega) ?_
          refine zs_puti hΓ dX5_pave_128 (pc' := 131) rfl fX5_476 (fun q hq => (by cases hq; exact Or.inl rfl)) (i9 := 50) rfl trivial (tw_t hTw) (show (0 : Int) ≤ 1 by decide) ?_
          refine zs_aload_n hΓ dX5_pave_131 (pc' := 132) rfl rfl rfl ?_
          refine zs_dup hΓ dX5_pave_132 (pc' := 133) rfl  ?_
          refine zs_geti hΓ dX5_pave_133 (pc' := 136) rfl fX5_479 (i9 := 51) rfl rfl (tw_t hTw) ?_
          refine zs_eqI (y := cntP (fun c => E c ∧ ¬ D c) i.toNat) (by rw [gI_setI, if_neg (by decide), gI_setI, if_neg (by decide)]; exact e51) ?_
          refine zs_aload_n hΓ dX5_pave_136 (pc' := 137) rfl rfl rfl ?_
          refine zs_getrE hΓ dX5_pave_137 (pc' := 140) rfl fX5_95 (i9 := 45) rfl rfl (tw_t hTw) (tw_p45 hTw) ?_
          refine zs_iload hΓ dX5_pave_140 (pc' := 142) rfl rfl ?_
          refine zs_zald hΓ dX5_pave_142 (pc' := 143) rfl (tw_a45 hTw) (by omega) (by omega) ?_
          refine zs_eqI (y := iB (E i)) (by rw [gI_ot _ _ _ (n1 (by decide)), gI_ot _ _ _ (n1 (by decide))]; exact i45) ?_
          refine zs_ifeq hΓ dX5_pave_143 (tgt := 160) (by decide) (pc' := 146) rfl (fun c_143 => ?_) (fun c_143 => ?_)
          · have c_143 := iB_eq c_143
            refine zs_iconst hΓ dX5_pave_160 (pc' := 161) rfl ⟨by decide, by decide⟩ ?_
            refine zs_iadd hΓ dX5_pave_161 (pc' := 162) rfl (by unfold inI; omega) ?_
            refine zs_puti hΓ dX5_pave_162 (pc' := 165) rfl fX5_479 (fun q hq => (by cases hq; exact Or.inl rfl)) (i9 := 51) rfl trivial (tw_t hTw) (show (0 : Int) ≤ 1 by decide) ?_
            refine zs_iinc hΓ dX5_pave_165 (pc' := 168) rfl (L' := [some (zR _), some (zI _), some (zI _), some (zI _), some (zI _)]) rfl (by unfold inI; omega) (by decide) rfl rfl ?_
            refine zs_goto hΓ dX5_pave_168 (tgt := 64) (by decide) ?_
            exact fin _ _ _ (by first | exact iB_f (by assumption) | exact iB_t (by assumption)) (by first | exact iB_f (fun z => absurd z.1 (by assumption)) | exact iB_f (fun z => absurd (by assumption) z.2) | exact iB_t ⟨by assumption, by assumption⟩ | exact absurd ‹D i› ‹¬ D i›) (by first | exact iB_f (fun z => absurd z.1 (by assumption)) | exact iB_f (fun z => absurd (by assumption) z.2) | exact iB_t ⟨by assumption, by assumption⟩ | exact absurd ‹D i› ‹¬ D i›)
          · have c_143 := iB_ne c_143
            refine zs_aload_n hΓ dX5_pave_146 (pc' := 147) rfl rfl rfl ?_
            refine zs_getrE hΓ dX5_pave_147 (pc' := 150) rfl fX5_98 (i9 := 46) rfl rfl (tw_t hTw) (tw_p46 hTw) ?_
            refine zs_iload hΓ dX5_pave_150 (pc' := 152) rfl rfl ?_
            refine zs_zald hΓ dX5_pave_152 (pc' := 153) rfl (tw_a46 hTw) (by omega) (by omega) ?_
            refine zs_eqI (y := iB (D i)) (by rw [gI_ot _ _ _ (n1 (by decide)), gI_ot _ _ _ (n1 (by decide))]; exact i46) ?_
            refine zs_ifne hΓ dX5_pave_153 (tgt := 160) (by decide) (pc' := 156) rfl (fun c_153 => ?_) (fun c_153 => ?_)
            · have c_153 := iB_ne c_153
              refine zs_iconst hΓ dX5_pave_160 (pc' := 161) rfl ⟨by decide, by decide⟩ ?_
              refine zs_iadd hΓ dX5_pave_161 (pc' := 162) rfl (by unfold inI; omega) ?_
              refine zs_puti hΓ dX5_pave_162 (pc' := 165) rfl fX5_479 (fun q hq => (by cases hq; exact Or.inl rfl)) (i9 := 51) rfl trivial (tw_t hTw) (show (0 : Int) ≤ 1 by decide) ?_
              refine zs_iinc hΓ dX5_pave_165 (pc' := 168) rfl (L' := [some (zR _), some (zI _), some (zI _), some (zI _), some (zI _)]) rfl (by unfold inI; omega) (by decide) rfl rfl ?_
              refine zs_goto hΓ dX5_pave_168 (tgt := 64) (by decide) ?_
              exact fin _ _ _ (by first | exact iB_f (by assumption) | exact iB_t (by assumption)) (by first | exact iB_f (fun z => absurd z.1 (by assumption)) | exact iB_f (fun z => absurd (by assumption) z.2) | exact iB_t ⟨by assumption, by assumption⟩ | exact absurd ‹D i› ‹¬ D i›) (by first | exact iB_f (fun z => absurd z.1 (by assumption)) | exact iB_f (fun z => absurd (by assumption) z.2) | exact iB_t ⟨by assumption, by assumption⟩ | exact absurd ‹D i› ‹¬ D i›)
            · have c_153 := iB_eq c_153
              refine zs_iconst hΓ dX5_pave_156 (pc' := 157) rfl ⟨by decide, by decide⟩ ?_
              refine zs_goto hΓ dX5_pave_157 (tgt := 161) (by decide) ?_
              refine zs_iadd hΓ dX5_pave_161 (pc' := 162) rfl (by unfold inI; omega) ?_
              refine zs_puti hΓ dX5_pave_162 (pc' := 165) rfl fX5_479 (fun q hq => (by cases hq; exact Or.inl rfl)) (i9 := 51) rfl trivial (tw_t hTw) (show (0 : Int) ≤ 1 by decide) ?_
              refine zs_iinc hΓ dX5_pave_165 (pc' := 168) rfl (L' := [some (zR _), some (zI _), some (zI _), some (zI _), some (zI _)]) rfl (by unfold inI; omega) (by decide) rfl rfl ?_
              refine zs_goto hΓ dX5_pave_168 (tgt := 64) (by decide) ?_
              exact fin _ _ _ (by first | exact iB_f (by assumption) | exact iB_t (by assumption)) (by first | exact iB_f (fun z => absurd z.1 (by assumption)) | exact iB_f (fun z => absurd (by assumption) z.2) | exact iB_t ⟨by assumption, by assumption⟩ | exact absurd ‹D i› ‹¬ D i›) (by first | exact iB_f (fun z => absurd z.1 (by assumption)) | exact iB_f (fun z => absurd (by assumption) z.2) | exact iB_t ⟨by assumption, by assumption⟩ | exact absurd ‹D i› ‹¬ D i›)
        · have c_109 := iB_ne c_109
          refine zs_aload_n hΓ dX5_pave_112 (pc' := 113) rfl rfl rfl ?_
          refine zs_getrE hΓ dX5_pave_113 (pc' := 116) rfl fX5_95 (i9 := 45) rfl rfl (tw_t hTw) (tw_p45 hTw) ?_
          refine zs_iload hΓ dX5_pave_116 (pc' := 118) rfl rfl ?_
          refine zs_zald hΓ dX5_pave_118 (pc' := 119) rfl (tw_a45 hTw) (by omega) (by omega) ?_
          refine zs_eqI (y := iB (E i)) (by rw [gI_ot _ _ _ (n1 (by decide))]; exact i45) ?_
          refine zs_ifne hΓ dX5_pave_119 (tgt := 126) (by decide) (pc' := 122) rfl (fun c_119 => ?_) (fun c_119 => ?_)
          · have c_119 := iB_ne c_119
            refine zs_iconst hΓ dX5_pave_126 (pc' := 127) rfl ⟨by decide, by decide⟩ ?_
            refine zs_iadd hΓ dX5_pave_127 (pc' := 128) rfl (by unfold inI; omega) ?_
            refine zs_puti hΓ dX5_pave_128 (pc' := 131) rfl fX5_476 (fun q hq => (by cases hq; exact Or.inl rfl)) (i9 := 50) rfl trivial (tw_t hTw) (show (0 : Int) ≤ 1 by decide) ?_
            refine zs_aload_n hΓ dX5_pave_131 (pc' := 132) rfl rfl rfl ?_
            refine zs_dup hΓ dX5_pave_132 (pc' := 133) rfl  ?_
            refine zs_geti hΓ dX5_pave_133 (pc' := 136) rfl fX5_479 (i9 := 51) rfl rfl (tw_t hTw) ?_
            refine zs_eqI (y := cntP (fun c => E c ∧ ¬ D c) i.toNat) (by rw [gI_setI, if_neg (by decide), gI_setI, if_neg (by decide)]; exact e51) ?_
            refine zs_aload_n hΓ dX5_pave_136 (pc' := 137) rfl rfl rfl ?_
            refine zs_getrE hΓ dX5_pave_137 (pc' := 140) rfl fX5_95 (i9 := 45) rfl rfl (tw_t hTw) (tw_p45 hTw) ?_
            refine zs_iload hΓ dX5_pave_140 (pc' := 142) rfl rfl ?_
            refine zs_zald hΓ dX5_pave_142 (pc' := 143) rfl (tw_a45 hTw) (by omega) (by omega) ?_
            refine zs_eqI (y := iB (E i)) (by rw [gI_ot _ _ _ (n1 (by decide)), gI_ot _ _ _ (n1 (by decide))]; exact i45) ?_
            refine zs_ifeq hΓ dX5_pave_143 (tgt := 160) (by decide) (pc' := 146) rfl (fun c_143 => ?_) (fun c_143 => ?_)
            · have c_143 := iB_eq c_143
              refine zs_iconst hΓ dX5_pave_160 (pc' := 161) rfl ⟨by decide, by decide⟩ ?_
              refine zs_iadd hΓ dX5_pave_161 (pc' := 162) rfl (by unfold inI; omega) ?_
              refine zs_puti hΓ dX5_pave_162 (pc' := 165) rfl fX5_479 (fun q hq => (by cases hq; exact Or.inl rfl)) (i9 := 51) rfl trivial (tw_t hTw) (show (0 : Int) ≤ 1 by decide) ?_
              refine zs_iinc hΓ dX5_pave_165 (pc' := 168) rfl (L' := [some (zR _), some (zI _), some (zI _), some (zI _), some (zI _)]) rfl (by unfold inI; omega) (by decide) rfl rfl ?_
              refine zs_goto hΓ dX5_pave_168 (tgt := 64) (by decide) ?_
              exact fin _ _ _ (by first | exact iB_f (by assumption) | exact iB_t (by assumption)) (by first | exact iB_f (fun z => absurd z.1 (by assumption)) | exact iB_f (fun z => absurd (by assumption) z.2) | exact iB_t ⟨by assumption, by assumption⟩ | exact absurd ‹D i› ‹¬ D i›) (by first | exact iB_f (fun z => absurd z.1 (by assumption)) | exact iB_f (fun z => absurd (by assumption) z.2) | exact iB_t ⟨by assumption, by assumption⟩ | exact absurd ‹D i› ‹¬ D i›)
            · have c_143 := iB_ne c_143
              refine zs_aload_n hΓ dX5_pave_146 (pc' := 147) rfl rfl rfl ?_
              refine zs_getrE hΓ dX5_pave_147 (pc' := 150) rfl fX5_98 (i9 := 46) rfl rfl (tw_t hTw) (tw_p46 hTw) ?_
              refine zs_iload hΓ dX5_pave_150 (pc' := 152) rfl rfl ?_
              refine zs_zald hΓ dX5_pave_152 (pc' := 153) rfl (tw_a46 hTw) (by omega) (by omega) ?_
              refine zs_eqI (y := iB (D i)) (by rw [gI_ot _ _ _ (n1 (by decide)), gI_ot _ _ _ (n1 (by decide))]; exact i46) ?_
              refine zs_ifne hΓ dX5_pave_153 (tgt := 160) (by decide) (pc' := 156) rfl (fun c_153 => ?_) (fun c_153 => ?_)
              · have c_153 := iB_ne c_153
                refine zs_iconst hΓ dX5_pave_160 (pc' := 161) rfl ⟨by decide, by decide⟩ ?_
                refine zs_iadd hΓ dX5_pave_161 (pc' := 162) rfl (by unfold inI; omega) ?_
                refine zs_puti hΓ dX5_pave_162 (pc' := 165) rfl fX5_479 (fun q hq => (by cases hq; exact Or.inl rfl)) (i9 := 51) rfl trivial (tw_t hTw) (show (0 : Int) ≤ 1 by decide) ?_
                refine zs_iinc hΓ dX5_pave_165 (pc' := 168) rfl (L' := [some (zR _), some (zI _), some (zI _), some (zI _), some (zI _)]) rfl (by unfold inI; omega) (by decide) rfl rfl ?_
                refine zs_goto hΓ dX5_pave_168 (tgt := 64) (by decide) ?_
                exact fin _ _ _ (by first | exact iB_f (by assumption) | exact iB_t (by assumption)) (by first | exact iB_f (fun z => absurd z.1 (by assumption)) | exact iB_f (fun z => absurd (by assumption) z.2) | exact iB_t ⟨by assumption, by assumption⟩ | exact absurd ‹D i› ‹¬ D i›) (by first | exact iB_f (fun z => absurd z.1 (by assumption)) | exact iB_f (fun z => absurd (by assumption) z.2) | exact iB_t ⟨by assumption, by assumption⟩ | exact absurd ‹D i› ‹¬ D i›)
              · have c_153 := iB_eq c_153
                refine zs_iconst hΓ dX5_pave_156 (pc' := 157) rfl ⟨by decide, by decide⟩ ?_
                refine zs_goto hΓ dX5_pave_157 (tgt := 161) (by decide) ?_
                refine zs_iadd hΓ dX5_pave_161 (pc' := 162) rfl (by unfold inI; omega) ?_
                refine zs_puti hΓ dX5_pave_162 (pc' := 165) rfl fX5_479 (fun q hq => (by cases hq; exact Or.inl rfl)) (i9 := 51) rfl trivial (tw_t hTw) (show (0 : Int) ≤ 1 by decide) ?_
                refine zs_iinc hΓ dX5_pave_165 (pc' := 168) rfl (L' := [some (zR _), some (zI _), some (zI _), some (zI _), some (zI _)]) rfl (by unfold inI; omega) (by decide) rfl rfl ?_
                refine zs_goto hΓ dX5_pave_168 (tgt := 64) (by decide) ?_
                exact fin _ _ _ (by first | exact iB_f (by assumption) | exact iB_t (by assumption)) (by first | exact iB_f (fun z => absurd z.1 (by assumption)) | exact iB_f (fun z => absurd (by assumption) z.2) | exact iB_t ⟨by assumption, by assumption⟩ | exact absurd ‹D i› ‹¬ D i›) (by first | exact iB_f (fun z => absurd z.1 (by assumption)) | exact iB_f (fun z => absurd (by assumption) z.2) | exact iB_t ⟨by assumption, by assumption⟩ | exact absurd ‹D i› ‹¬ D i›)
          · have c_119 := iB_eq c_119
            refine zs_iconst hΓ dX5_pave_122 (pc' := 123) rfl ⟨by decide, by decide⟩ ?_
            refine zs_goto hΓ dX5_pave_123 (tgt := 127) (by decide) ?_
            refine zs_iadd hΓ dX5_pave_127 (pc' := 128) rfl (by unfold inI; omega) ?_
            refine zs_puti hΓ dX5_pave_128 (pc' := 131) rfl fX5_476 (fun q hq => (by cases hq; exact Or.inl rfl)) (i9 := 50) rfl trivial (tw_t hTw) (show (0 : Int) ≤ 1 by decide) ?_
            refine zs_aload_n hΓ dX5_pave_131 (pc' := 132) rfl rfl rfl ?_
            refine zs_dup hΓ dX5_pave_132 (pc' := 133) rfl  ?_
            refine zs_geti hΓ dX5_pave_133 (pc' := 136) rfl fX5_479 (i9 := 51) rfl rfl (tw_t hTw) ?_
            refine zs_eqI (y := cntP (fun c => E c ∧ ¬ D c) i.toNat) (by rw [gI_setI, if_neg (by decide), gI_setI, if_neg (by decide)]; exact e51) ?_
            refine zs_aload_n hΓ dX5_pave_136 (pc' := 137) rfl rfl rfl ?_
            refine zs_getrE hΓ dX5_pave_137 (pc' := 140) rfl fX5_95 (i9 := 45) rfl rfl (tw_t hTw) (tw_p45 hTw) ?_
            refine zs_iload hΓ dX5_pave_140 (pc' := 142) rfl rfl ?_
            refine zs_zald hΓ dX5_pave_142 (pc' := 143) rfl (tw_a45 hTw) (by omega) (by omega) ?_
            refine zs_eqI (y := iB (E i)) (by rw [gI_ot _ _ _ (n1 (by decide)), gI_ot _ _ _ (n1 (by decide))]; exact i45) ?_
            refine zs_ifeq hΓ dX5_pave_143 (tgt := 160) (by decide) (pc' := 146) rfl (fun c_143 => ?_) (fun c_143 => ?_)
            · have c_143 := iB_eq c_143
              refine zs_iconst hΓ dX5_pave_160 (pc' := 161) rfl ⟨by decide, by decide⟩ ?_
              refine zs_iadd hΓ dX5_pave_161 (pc' := 162) rfl (by unfold inI; omega) ?_
              refine zs_puti hΓ dX5_pave_162 (pc' := 165) rfl fX5_479 (fun q hq => (by cases hq; exact Or.inl rfl)) (i9 := 51) rfl trivial (tw_t hTw) (show (0 : Int) ≤ 1 by decide) ?_
              refine zs_iinc hΓ dX5_pave_165 (pc' := 168) rfl (L' := [some (zR _), some (zI _), some (zI _), some (zI _), some (zI _)]) rfl (by unfold inI; omega) (by decide) rfl rfl ?_
              refine zs_goto hΓ dX5_pave_168 (tgt := 64) (by decide) ?_
              exact fin _ _ _ (by first | exact iB_f (by assumption) | exact iB_t (by assumption)) (by first | exact iB_f (fun z => absurd z.1 (by assumption)) | exact iB_f (fun z => absurd (by assumption) z.2) | exact iB_t ⟨by assumption, by assumption⟩ | exact absurd ‹D i› ‹¬ D i›) (by first | exact iB_f (fun z => absurd z.1 (by assumption)) | exact iB_f (fun z => absurd (by assumption) z.2) | exact iB_t ⟨by assumption, by assumption⟩ | exact absurd ‹D i› ‹¬ D i›)
            · have c_143 := iB_ne c_143
              refine zs_aload_n hΓ dX5_pave_146 (pc' := 147) rfl rfl rfl ?_
              refine zs_getrE hΓ dX5_pave_147 (pc' := 150) rfl fX5_98 (i9 := 46) rfl rfl (tw_t hTw) (tw_p46 hTw) ?_
              refine zs_iload hΓ dX5_pave_150 (pc' := 152) rfl rfl ?_
              refine zs_zald hΓ dX5_pave_152 (pc' := 153) rfl (tw_a46 hTw) (by omega) (by omega) ?_
              refine zs_eqI (y := iB (D i)) (by rw [gI_ot _ _ _ (n1 (by decide)), gI_ot _ _ _ (n1 (by decide))]; exact i46) ?_
              refine zs_ifne hΓ dX5_pave_153 (tgt := 160) (by decide) (pc' := 156) rfl (fun c_153 => ?_) (fun c_153 => ?_)
              · have c_153 := iB_ne c_153
                refine zs_iconst hΓ dX5_pave_160 (pc' := 161) rfl ⟨by decide, by decide⟩ ?_
                refine zs_iadd hΓ dX5_pave_161 (pc' := 162) rfl (by unfold inI; omega) ?_
                refine zs_puti hΓ dX5_pave_162 (pc' := 165) rfl fX5_479 (fun q hq => (by cases hq; exact Or.inl rfl)) (i9 := 51) rfl trivial (tw_t hTw) (show (0 : Int) ≤ 1 by decide) ?_
                refine zs_iinc hΓ dX5_pave_165 (pc' := 168) rfl (L' := [some (zR _), some (zI _), some (zI _), some (zI _), some (zI _)]) rfl (by unfold inI; omega) (by decide) rfl rfl ?_
                refine zs_goto hΓ dX5_pave_168 (tgt := 64) (by decide) ?_
                exact fin _ _ _ (by first | exact iB_f (by assumption) | exact iB_t (by assumption)) (by first | exact iB_f (fun z => absurd z.1 (by assumption)) | exact iB_f (fun z => absurd (by assumption) z.2) | exact iB_t ⟨by assumption, by assumption⟩ | exact absurd ‹D i› ‹¬ D i›) (by first | exact iB_f (fun z => absurd z.1 (by assumption)) | exact iB_f (fun z => absurd (by assumption) z.2) | exact iB_t ⟨by assumption, by assumption⟩ | exact absurd ‹D i› ‹¬ D i›)
              · have c_153 := iB_eq c_153
                refine zs_iconst hΓ dX5_pave_156 (pc' := 157) rfl ⟨by decide, by decide⟩ ?_
                refine zs_goto hΓ dX5_pave_157 (tgt := 161) (by decide) ?_
                refine zs_iadd hΓ dX5_pave_161 (pc' := 162) rfl (by unfold inI; omega) ?_
                refine zs_puti hΓ dX5_pave_162 (pc' := 165) rfl fX5_479 (fun q hq => (by cases hq; exact Or.inl rfl)) (i9 := 51) rfl trivial (tw_t hTw) (show (0 : Int) ≤ 1 by decide) ?_
                refine zs_iinc hΓ dX5_pave_165 (pc' := 168) rfl (L' := [some (zR _), some (zI _), some (zI _), some (zI _), some (zI _)]) rfl (by unfold inI; omega) (by decide) rfl rfl ?_
                refine zs_goto hΓ dX5_pave_168 (tgt := 64) (by decide) ?_
                exact fin _ _ _ (by first | exact iB_f (by assumption) | exact iB_t (by assumption)) (by first | exact iB_f (fun z => absurd z.1 (by assumption)) | exact iB_f (fun z => absurd (by assumption) z.2) | exact iB_t ⟨by assumption, by assumption⟩ | exact absurd ‹D i› ‹¬ D i›) (by first | exact iB_f (fun z => absurd z.1 (by assumption)) | exact iB_f (fun z => absurd (by assumption) z.2) | exact iB_t ⟨by assumption, by assumption⟩ | exact absurd ‹D i› ‹¬ D i›)
      · have c_85 := iB_ne c_85
        refine zs_iconst hΓ dX5_pave_88 (pc' := 89) rfl ⟨by decide, by decide⟩ ?_
        refine zs_goto hΓ dX5_pave_89 (tgt := 93) (by decide) ?_
        refine zs_iadd hΓ dX5_pave_93 (pc' := 94) rfl (by unfold inI; omega) ?_
        refine zs_puti hΓ dX5_pave_94 (pc' := 97) rfl fX5_473 (fun q hq => (by cases hq; exact Or.inl rfl)) (i9 := 49) rfl trivial (tw_t hTw) (show (0 : Int) ≤ 1 by decide) ?_
        refine zs_aload_n hΓ dX5_pave_97 (pc' := 98) rfl rfl rfl ?_
        refine zs_dup hΓ dX5_pave_98 (pc' := 99) rfl  ?_
        refine zs_geti hΓ dX5_pave_99 (pc' := 102) rfl fX5_476 (i9 := 50) rfl rfl (tw_t hTw) ?_
        refine zs_eqI (y := cntP (fun c => D c ∧ ¬ E c) i.toNat) (by rw [gI_setI, if_neg (by decide)]; exact e50) ?_
        refine zs_aload_n hΓ dX5_pave_102 (pc' := 103) rfl rfl rfl ?_
        refine zs_getrE hΓ dX5_pave_103 (pc' := 106) rfl fX5_98 (i9 := 46) rfl rfl (tw_t hTw) (tw_p46 hTw) ?_
        refine zs_iload hΓ dX5_pave_106 (pc' := 108) rfl rfl ?_
        refine zs_zald hΓ dX5_pave_108 (pc' := 109) rfl (tw_a46 hTw) (by omega) (by omega) ?_
        refine zs_eqI (y := iB (D i)) (by rw [gI_ot _ _ _ (n1 (by decide))]; exact i46) ?_
        refine zs_ifeq hΓ dX5_pave_109 (tgt := 126) (by decide) (pc' := 112) rfl (fun c_109 => ?_) (fun c_109 => ?_)
        · have c_109 := iB_eq c_109
          refine zs_iconst hΓ dX5_pave_126 (pc' := 127) rfl ⟨by decide, by decide⟩ ?_
          refine zs_iadd hΓ dX5_pave_127 (pc' := 128) rfl (by unfold inI; omega) ?_
          refine zs_puti hΓ dX5_pave_128 (pc' := 131) rfl fX5_476 (fun q hq => (by cases hq; exact Or.inl rfl)) (i9 := 50) rfl trivial (tw_t hTw) (show (0 : Int) ≤ 1 by decide) ?_
          refine zs_aload_n hΓ dX5_pave_131 (pc' := 132) rfl rfl rfl ?_
          refine zs_dup hΓ dX5_pave_132 (pc' := 133) rfl  ?_
          refine zs_geti hΓ dX5_pave_133 (pc' := 136) rfl fX5_479 (i9 := 51) rfl rfl (tw_t hTw) ?_
          refine zs_eqI (y := cntP (fun c => E c ∧ ¬ D c) i.toNat) (by rw [gI_setI, if_neg (by decide), gI_setI, if_neg (by decide)]; exact e51) ?_
          refine zs_aload_n hΓ dX5_pave_136 (pc' := 137) rfl rfl rfl ?_
          refine zs_getrE hΓ dX5_pave_137 (pc' := 140) rfl fX5_95 (i9 := 45) rfl rfl (tw_t hTw) (tw_p45 hTw) ?_
          refine zs_iload hΓ dX5_pave_140 (pc' := 142) rfl rfl ?_
          refine zs_zald hΓ dX5_pave_142 (pc' := 143) rfl (tw_a45 hTw) (by omega) (by omega) ?_
          refine zs_eqI (y := iB (E i)) (by rw [gI_ot _ _ _ (n1 (by decide)), gI_ot _ _ _ (n1 (by decide))]; exact i45) ?_
          refine zs_ifeq hΓ dX5_pave_143 (tgt := 160) (by decide) (pc' := 146) rfl (fun c_143 => ?_) (fun c_143 => ?_)
          · have c_143 := iB_eq c_143
            refine zs_iconst hΓ dX5_pave_160 (pc' := 161) rfl ⟨by decide, by decide⟩ ?_
            refine zs_iadd hΓ dX5_pave_161 (pc' := 162) rfl (by unfold inI; omega) ?_
            refine zs_puti hΓ dX5_pave_162 (pc' := 165) rfl fX5_479 (fun q hq => (by cases hq; exact Or.inl rfl)) (i9 := 51) rfl trivial (tw_t hTw) (show (0 : Int) ≤ 1 by decide) ?_
            refine zs_iinc hΓ dX5_pave_165 (pc' := 168) rfl (L' := [some (zR _), some (zI _), some (zI _), some (zI _), some (zI _)]) rfl (by unfold inI; omega) (by decide) rfl rfl ?_
            refine zs_goto hΓ dX5_pave_168 (tgt := 64) (by decide) ?_
            exact fin _ _ _ (by first | exact iB_f (by assumption) | exact iB_t (by assumption)) (by first | exact iB_f (fun z => absurd z.1 (by assumption)) | exact iB_f (fun z => absurd (by assumption) z.2) | exact iB_t ⟨by assumption, by assumption⟩ | exact absurd ‹D i› ‹¬ D i›) (by first | exact iB_f (fun z => absurd z.1 (by assumption)) | exact iB_f (fun z => absurd (by assumption) z.2) | exact iB_t ⟨by assumption, by assumption⟩ | exact absurd ‹D i› ‹¬ D i›)
          · have c_143 := iB_ne c_143
            refine zs_aload_n hΓ dX5_pave_146 (pc' := 147) rfl rfl rfl ?_
            refine zs_getrE hΓ dX5_pave_147 (pc' := 150) rfl fX5_98 (i9 := 46) rfl rfl (tw_t hTw) (tw_p46 hTw) ?_
            refine zs_iload hΓ dX5_pave_150 (pc' := 152) rfl rfl ?_
            refine zs_zald hΓ dX5_pave_152 (pc' := 153) rfl (tw_a46 hTw) (by omega) (by omega) ?_
            refine zs_eqI (y := iB (D i)) (by rw [gI_ot _ _ _ (n1 (by decide)), gI_ot _ _ _ (n1 (by decide))]; exact i46) ?_
            refine zs_ifne hΓ dX5_pave_153 (tgt := 160) (by decide) (pc' := 156) rfl (fun c_153 => ?_) (fun c_153 => ?_)
            · have c_153 := iB_ne c_153
              refine zs_iconst hΓ dX5_pave_160 (pc' := 161) rfl ⟨by decide, by decide⟩ ?_
              refine zs_iadd hΓ dX5_pave_161 (pc' := 162) rfl (by unfold inI; omega) ?_
              refine zs_puti hΓ dX5_pave_162 (pc' := 165) rfl fX5_479 (fun q hq => (by cases hq; exact Or.inl rfl)) (i9 := 51) rfl trivial (tw_t hTw) (show (0 : Int) ≤ 1 by decide) ?_
              refine zs_iinc hΓ dX5_pave_165 (pc' := 168) rfl (L' := [some (zR _), some (zI _), some (zI _), some (zI _), some (zI _)]) rfl (by unfold inI; omega) (by decide) rfl rfl ?_
              refine zs_goto hΓ dX5_pave_168 (tgt := 64) (by decide) ?_
              exact fin _ _ _ (by first | exact iB_f (by assumption) | exact iB_t (by assumption)) (by first | exact iB_f (fun z => absurd z.1 (by assumption)) | exact iB_f (fun z => absurd (by assumption) z.2) | exact iB_t ⟨by assumption, by assumption⟩ | exact absurd ‹D i› ‹¬ D i›) (by first | exact iB_f (fun z => absurd z.1 (by assumption)) | exact iB_f (fun z => absurd (by assumption) z.2) | exact iB_t ⟨by assumption, by assumption⟩ | exact absurd ‹D i› ‹¬ D i›)
            · have c_153 := iB_eq c_153
              refine zs_iconst hΓ dX5_pave_156 (pc' := 157) rfl ⟨by decide, by decide⟩ ?_
              refine zs_goto hΓ dX5_pave_157 (tgt := 161) (by decide) ?_
              refine zs_iadd hΓ dX5_pave_161 (pc' := 162) rfl (by unfold inI; omega) ?_
              refine zs_puti hΓ dX5_pave_162 (pc' := 165) rfl fX5_479 (fun q hq => (by cases hq; exact Or.inl rfl)) (i9 := 51) rfl trivial (tw_t hTw) (show (0 : Int) ≤ 1 by decide) ?_
              refine zs_iinc hΓ dX5_pave_165 (pc' := 168) rfl (L' := [some (zR _), some (zI _), some (zI _), some (zI _), some (zI _)]) rfl (by unfold inI; omega) (by decide) rfl rfl ?_
              refine zs_goto hΓ dX5_pave_168 (tgt := 64) (by decide) ?_
              exact fin _ _ _ (by first | exact iB_f (by assumption) | exact iB_t (by assumption)) (by first | exact iB_f (fun z => absurd z.1 (by assumption)) | exact iB_f (fun z => absurd (by assumption) z.2) | exact iB_t ⟨by assumption, by assumption⟩ | exact absurd ‹D i› ‹¬ D i›) (by first | exact iB_f (fun z => absurd z.1 (by assumption)) | exact iB_f (fun z => absurd (by assumption) z.2) | exact iB_t ⟨by assumption, by assumption⟩ | exact absurd ‹D i› ‹¬ D i›)
        · have c_109 := iB_ne c_109
          refine zs_aload_n hΓ dX5_pave_112 (pc' := 113) rfl rfl rfl ?_
          refine zs_getrE hΓ dX5_pave_113 (pc' := 116) rfl fX5_95 (i9 := 45) rfl rfl (tw_t hTw) (tw_p45 hTw) ?_
          refine zs_iload hΓ dX5_pave_116 (pc' := 118) rfl rfl ?_
          refine zs_zald hΓ dX5_pave_118 (pc' := 119) rfl (tw_a45 hTw) (by omega) (by omega) ?_
          refine zs_eqI (y := iB (E i)) (by rw [gI_ot _ _ _ (n1 (by decide))]; exact i45) ?_
          refine zs_ifne hΓ dX5_pave_119 (tgt := 126) (by decide) (pc' := 122) rfl (fun c_119 => ?_) (fun c_119 => ?_)
          · have c_119 := iB_ne c_119
            refine zs_iconst hΓ dX5_pave_126 (pc' := 127) rfl ⟨by decide, by decide⟩ ?_
            refine zs_iadd hΓ dX5_pave_127 (pc' := 128) rfl (by unfold inI; omega) ?_
            refine zs_puti hΓ dX5_pave_128 (pc' := 131) rfl fX5_476 (fun q hq => (by cases hq; exact Or.inl rfl)) (i9 := 50) rfl trivial (tw_t hTw) (show (0 : Int) ≤ 1 by decide) ?_
            refine zs_aload_n hΓ dX5_pave_131 (pc' := 132) rfl rfl rfl ?_
            refine zs_dup hΓ dX5_pave_132 (pc' := 133) rfl  ?_
            refine zs_geti hΓ dX5_pave_133 (pc' := 136) rfl fX5_479 (i9 := 51) rfl rfl (tw_t hTw) ?_
            refine zs_eqI (y := cntP (fun c => E c ∧ ¬ D c) i.toNat) (by rw [gI_setI, if_neg (by decide), gI_setI, if_neg (by decide)]; exact e51) ?_
            refine zs_aload_n hΓ dX5_pave_136 (pc' := 137) rfl rfl rfl ?_
            refine zs_getrE hΓ dX5_pave_137 (pc' := 140) rfl fX5_95 (i9 := 45) rfl rfl (tw_t hTw) (tw_p45 hTw) ?_
            refine zs_iload hΓ dX5_pave_140 (pc' := 142) rfl rfl ?_
            refine zs_zald hΓ dX5_pave_142 (pc' := 143) rfl (tw_a45 hTw) (by omega) (by omega) ?_
            refine zs_eqI (y := iB (E i)) (by rw [gI_ot _ _ _ (n1 (by decide)), gI_ot _ _ _ (n1 (by decide))]; exact i45) ?_
            refine zs_ifeq hΓ dX5_pave_143 (tgt := 160) (by decide) (pc' := 146) rfl (fun c_143 => ?_) (fun c_143 => ?_)
            · have c_143 := iB_eq c_143
              refine zs_iconst hΓ dX5_pave_160 (pc' := 161) rfl ⟨by decide, by decide⟩ ?_
              refine zs_iadd hΓ dX5_pave_161 (pc' := 162) rfl (by unfold inI; omega) ?_
              refine zs_puti hΓ dX5_pave_162 (pc' := 165) rfl fX5_479 (fun q hq => (by cases hq; exact Or.inl rfl)) (i9 := 51) rfl trivial (tw_t hTw) (show (0 : Int) ≤ 1 by decide) ?_
              refine zs_iinc hΓ dX5_pave_165 (pc' := 168) rfl (L' := [some (zR _), some (zI _), some (zI _), some (zI _), some (zI _)]) rfl (by unfold inI; omega) (by decide) rfl rfl ?_
              refine zs_goto hΓ dX5_pave_168 (tgt := 64) (by decide) ?_
              exact fin _ _ _ (by first | exact iB_f (by assumption) | exact iB_t (by assumption)) (by first | exact iB_f (fun z => absurd z.1 (by assumption)) | exact iB_f (fun z => absurd (by assumption) z.2) | exact iB_t ⟨by assumption, by assumption⟩ | exact absurd ‹D i› ‹¬ D i›) (by first | exact iB_f (fun z => absurd z.1 (by assumption)) | exact iB_f (fun z => absurd (by assumption) z.2) | exact iB_t ⟨by assumption, by assumption⟩ | exact absurd ‹D i› ‹¬ D i›)
            · have c_143 := iB_ne c_143
              refine zs_aload_n hΓ dX5_pave_146 (pc' := 147) rfl rfl rfl ?_
              refine zs_getrE hΓ dX5_pave_147 (pc' := 150) rfl fX5_98 (i9 := 46) rfl rfl (tw_t hTw) (tw_p46 hTw) ?_
              refine zs_iload hΓ dX5_pave_150 (pc' := 152) rfl rfl ?_
              refine zs_zald hΓ dX5_pave_152 (pc' := 153) rfl (tw_a46 hTw) (by omega) (by omega) ?_
              refine zs_eqI (y := iB (D i)) (by rw [gI_ot _ _ _ (n1 (by decide)), gI_ot _ _ _ (n1 (by decide))]; exact i46) ?_
              refine zs_ifne hΓ dX5_pave_153 (tgt := 160) (by decide) (pc' := 156) rfl (fun c_153 => ?_) (fun c_153 => ?_)
              · have c_153 := iB_ne c_153
                refine zs_iconst hΓ dX5_pave_160 (pc' := 161) rfl ⟨by decide, by decide⟩ ?_
                refine zs_iadd hΓ dX5_pave_161 (pc' := 162) rfl (by unfold inI; omega) ?_
                refine zs_puti hΓ dX5_pave_162 (pc' := 165) rfl fX5_479 (fun q hq => (by cases hq; exact Or.inl rfl)) (i9 := 51) rfl trivial (tw_t hTw) (show (0 : Int) ≤ 1 by decide) ?_
                refine zs_iinc hΓ dX5_pave_165 (pc' := 168) rfl (L' := [some (zR _), some (zI _), some (zI _), some (zI _), some (zI _)]) rfl (by unfold inI; omega) (by decide) rfl rfl ?_
                refine zs_goto hΓ dX5_pave_168 (tgt := 64) (by decide) ?_
                exact fin _ _ _ (by first | exact iB_f (by assumption) | exact iB_t (by assumption)) (by first | exact iB_f (fun z => absurd z.1 (by assumption)) | exact iB_f (fun z => absurd (by assumption) z.2) | exact iB_t ⟨by assumption, by assumption⟩ | exact absurd ‹D i› ‹¬ D i›) (by first | exact iB_f (fun z => absurd z.1 (by assumption)) | exact iB_f (fun z => absurd (by assumption) z.2) | exact iB_t ⟨by assumption, by assumption⟩ | exact absurd ‹D i› ‹¬ D i›)
              · have c_153 := iB_eq c_153
                refine zs_iconst hΓ dX5_pave_156 (pc' := 157) rfl ⟨by decide, by decide⟩ ?_
                refine zs_goto hΓ dX5_pave_157 (tgt := 161) (by decide) ?_
                refine zs_iadd hΓ dX5_pave_161 (pc' := 162) rfl (by unfold inI; omega) ?_
                refine zs_puti hΓ dX5_pave_162 (pc' := 165) rfl fX5_479 (fun q hq => (by cases hq; exact Or.inl rfl)) (i9 := 51) rfl trivial (tw_t hTw) (show (0 : Int) ≤ 1 by decide) ?_
                refine zs_iinc hΓ dX5_pave_165 (pc' := 168) rfl (L' := [some (zR _), some (zI _), some (zI _), some (zI _), some (zI _)]) rfl (by unfold inI; omega) (by decide) rfl rfl ?_
                refine zs_goto hΓ dX5_pave_168 (tgt := 64) (by decide) ?_
                exact fin _ _ _ (by first | exact iB_f (by assumption) | exact iB_t (by assumption)) (by first | exact iB_f (fun z => absurd z.1 (by assumption)) | exact iB_f (fun z => absurd (by assumption) z.2) | exact iB_t ⟨by assumption, by assumption⟩ | exact absurd ‹D i› ‹¬ D i›) (by first | exact iB_f (fun z => absurd z.1 (by assumption)) | exact iB_f (fun z => absurd (by assumption) z.2) | exact iB_t ⟨by assumption, by assumption⟩ | exact absurd ‹D i› ‹¬ D i›)
          · have c_119 := iB_eq c_119
            refine zs_iconst hΓ dX5_pave_122 (pc' := 123) rfl ⟨by decide, by decide⟩ ?_
            refine zs_goto hΓ dX5_pave_123 (tgt := 127) (by decide) ?_
            refine zs_iadd hΓ dX5_pave_127 (pc' := 128) rfl (by unfold inI; omega) ?_
            refine zs_puti hΓ dX5_pave_128 (pc' := 131) rfl fX5_476 (fun q hq => (by cases hq; exact Or.inl rfl)) (i9 := 50) rfl trivial (tw_t hTw) (show (0 : Int) ≤ 1 by decide) ?_
            refine zs_aload_n hΓ dX5_pave_131 (pc' := 132) rfl rfl rfl ?_
            refine zs_dup hΓ dX5_pave_132 (pc' := 133) rfl  ?_
            refine zs_geti hΓ dX5_pave_133 (pc' := 136) rfl fX5_479 (i9 := 51) rfl rfl (tw_t hTw) ?_
            refine zs_eqI (y := cntP (fun c => E c ∧ ¬ D c) i.toNat) (by rw [gI_setI, if_neg (by decide), gI_setI, if_neg (by decide)]; exact e51) ?_
            refine zs_aload_n hΓ dX5_pave_136 (pc' := 137) rfl rfl rfl ?_
            refine zs_getrE hΓ dX5_pave_137 (pc' := 140) rfl fX5_95 (i9 := 45) rfl rfl (tw_t hTw) (tw_p45 hTw) ?_
            refine zs_iload hΓ dX5_pave_140 (pc' := 142) rfl rfl ?_
            refine zs_zald hΓ dX5_pave_142 (pc' := 143) rfl (tw_a45 hTw) (by omega) (by omega) ?_
            refine zs_eqI (y := iB (E i)) (by rw [gI_ot _ _ _ (n1 (by decide)), gI_ot _ _ _ (n1 (by decide))]; exact i45) ?_
            refine zs_ifeq hΓ dX5_pave_143 (tgt := 160) (by decide) (pc' := 146) rfl (fun c_143 => ?_) (fun c_143 => ?_)
            · have c_143 := iB_eq c_143
              refine zs_iconst hΓ dX5_pave_160 (pc' := 161) rfl ⟨by decide, by decide⟩ ?_
              refine zs_iadd hΓ dX5_pave_161 (pc' := 162) rfl (by unfold inI; omega) ?_
              refine zs_puti hΓ dX5_pave_162 (pc' := 165) rfl fX5_479 (fun q hq => (by cases hq; exact Or.inl rfl)) (i9 := 51) rfl trivial (tw_t hTw) (show (0 : Int) ≤ 1 by decide) ?_
              refine zs_iinc hΓ dX5_pave_165 (pc' := 168) rfl (L' := [some (zR _), some (zI _), some (zI _), some (zI _), some (zI _)]) rfl (by unfold inI; omega) (by decide) rfl rfl ?_
              refine zs_goto hΓ dX5_pave_168 (tgt := 64) (by decide) ?_
              exact fin _ _ _ (by first | exact iB_f (by assumption) | exact iB_t (by assumption)) (by first | exact iB_f (fun z => absurd z.1 (by assumption)) | exact iB_f (fun z => absurd (by assumption) z.2) | exact iB_t ⟨by assumption, by assumption⟩ | exact absurd ‹D i› ‹¬ D i›) (by first | exact iB_f (fun z => absurd z.1 (by assumption)) | exact iB_f (fun z => absurd (by assumption) z.2) | exact iB_t ⟨by assumption, by assumption⟩ | exact absurd ‹D i› ‹¬ D i›)
            · have c_143 := iB_ne c_143
              refine zs_aload_n hΓ dX5_pave_146 (pc' := 147) rfl rfl rfl ?_
              refine zs_getrE hΓ dX5_pave_147 (pc' := 150) rfl fX5_98 (i9 := 46) rfl rfl (tw_t hTw) (tw_p46 hTw) ?_
              refine zs_iload hΓ dX5_pave_150 (pc' := 152) rfl rfl ?_
              refine zs_zald hΓ dX5_pave_152 (pc' := 153) rfl (tw_a46 hTw) (by omega) (by omega) ?_
              refine zs_eqI (y := iB (D i)) (by rw [gI_ot _ _ _ (n1 (by decide)), gI_ot _ _ _ (n1 (by decide))]; exact i46) ?_
              refine zs_ifne hΓ dX5_pave_153 (tgt := 160) (by decide) (pc' := 156) rfl (fun c_153 => ?_) (fun c_153 => ?_)
              · have c_153 := iB_ne c_153
                refine zs_iconst hΓ dX5_pave_160 (pc' := 161) rfl ⟨by decide, by decide⟩ ?_
                refine zs_iadd hΓ dX5_pave_161 (pc' := 162) rfl (by unfold inI; omega) ?_
                refine zs_puti hΓ dX5_pave_162 (pc' := 165) rfl fX5_479 (fun q hq => (by cases hq; exact Or.inl rfl)) (i9 := 51) rfl trivial (tw_t hTw) (show (0 : Int) ≤ 1 by decide) ?_
                refine zs_iinc hΓ dX5_pave_165 (pc' := 168) rfl (L' := [some (zR _), some (zI _), some (zI _), some (zI _), some (zI _)]) rfl (by unfold inI; omega) (by decide) rfl rfl ?_
                refine zs_goto hΓ dX5_pave_168 (tgt := 64) (by decide) ?_
                exact fin _ _ _ (by first | exact iB_f (by assumption) | exact iB_t (by assumption)) (by first | exact iB_f (fun z => absurd z.1 (by assumption)) | exact iB_f (fun z => absurd (by assumption) z.2) | exact iB_t ⟨by assumption, by assumption⟩ | exact absurd ‹D i› ‹¬ D i›) (by first | exact iB_f (fun z => absurd z.1 (by assumption)) | exact iB_f (fun z => absurd (by assumption) z.2) | exact iB_t ⟨by assumption, by assumption⟩ | exact absurd ‹D i› ‹¬ D i›)
              · have c_153 := iB_eq c_153
                refine zs_iconst hΓ dX5_pave_156 (pc' := 157) rfl ⟨by decide, by decide⟩ ?_
                refine zs_goto hΓ dX5_pave_157 (tgt := 161) (by decide) ?_
                refine zs_iadd hΓ dX5_pave_161 (pc' := 162) rfl (by unfold inI; omega) ?_
                refine zs_puti hΓ dX5_pave_162 (pc' := 165) rfl fX5_479 (fun q hq => (by cases hq; exact Or.inl rfl)) (i9 := 51) rfl trivial (tw_t hTw) (show (0 : Int) ≤ 1 by decide) ?_
                refine zs_iinc hΓ dX5_pave_165 (pc' := 168) rfl (L' := [some (zR _), some (zI _), some (zI _), some (zI _), some (zI _)]) rfl (by unfold inI; omega) (by decide) rfl rfl ?_
                refine zs_goto hΓ dX5_pave_168 (tgt := 64) (by decide) ?_
                exact fin _ _ _ (by first | exact iB_f (by assumption) | exact iB_t (by assumption)) (by first | exact iB_f (fun z => absurd z.1 (by assumption)) | exact iB_f (fun z => absurd (by assumption) z.2) | exact iB_t ⟨by assumption, by assumption⟩ | exact absurd ‹D i› ‹¬ D i›) (by first | exact iB_f (fun z => absurd z.1 (by assumption)) | exact iB_f (fun z => absurd (by assumption) z.2) | exact iB_t ⟨by assumption, by assumption⟩ | exact absurd ‹D i› ‹¬ D i›)
  have lp1 : ∀ (m : Nat) (k : Int) (h' : zH), k + m = weeks + 1 → 1 ≤ k → Same cC5 h h' → gI h' (1, 7) = R → gI h' (1, 5) = sWks (sGo b mu dry tx0 hs ticks.toNat) (k - 1).toNat R → (w < k → ∀ c, 0 ≤ c → c < R 0 * R 1 → gI h' (1, 46) c = iB (D c)) → SS Γ 7 [some (zR (some (1, 0))), some (zI w), some (zI weeks), some (zI ticks), some (zI k)] [] h' 0 0 := by
    intro m
    induction m with
    | zero =>
      intro k h' hi hk0 hS h7 hr h46
      have hr9 : gI h' (1, 5) = sWks (sGo b mu dry tx0 hs ticks.toNat) weeks.toNat R := by rw [hr, show (k - 1).toNat = weeks.toNat by omega]
      have T' := T.same (B' := B + 20000 * weeks.toNat) hS (by rw [hr9]; exact okE.1)
      have hTw := T'.k.tw
      have g0 : gI h' (1, 5) 0 = R 0 := by rw [hr9]; exact okE.2 0 (by decide)
      have g1 : gI h' (1, 5) 1 = R 1 := by rw [hr9]; exact okE.2 1 (by decide)
      refine zs_iload hΓ dX5_pave_7 (pc' := 9) rfl rfl ?_
      refine zs_iload_n hΓ dX5_pave_9 (pc' := 10) rfl rfl rfl ?_
      refine zs_icmpgt hΓ dX5_pave_10 (tgt := 38) (by decide) (pc' := 13) rfl (fun c_10 => ?_) (fun c_10 => False.elim (absurd c_10 (by omega)))
      refine zs_aload_n hΓ dX5_pave_38 (pc' := 39) rfl rfl rfl ?_
      refine zs_aload_n hΓ dX5_pave_39 (pc' := 40) rfl rfl rfl ?_
      refine zs_getrE hΓ dX5_pave_40 (pc' := 43) rfl fX5_95 (i9 := 45) rfl rfl (tw_t hTw) (tw_p45 hTw) ?_
      refine zs_callVV hΓ dX5_pave_43 (pc' := 46) rfl kX5_448 (con_X5_note l hTw T'.k.ok.hd.rw 45 (by decide)) (tw_t hTw) rfl rfl rfl (Nat.le_of_ble_eq_true rfl) (by omega) (by decide) (by omega) (by omega) (fun h_43 q_43 k_43 => ?_) (fun _ _ q _ => False.elim q)
      obtain ⟨p1, p2⟩ := q_43
      have hTw := hTw.same p1
      refine zs_aload_n hΓ dX5_pave_46 (pc' := 47) rfl rfl rfl ?_
      refine zs_iconst hΓ dX5_pave_47 (pc' := 48) rfl ⟨by decide, by decide⟩ ?_
      refine zs_puti hΓ dX5_pave_48 (pc' := 51) rfl fX5_473 (fun q hq => (by cases hq; exact Or.inl rfl)) (i9 := 49) rfl trivial (tw_t hTw) (show (0 : Int) ≤ 1 by decide) ?_
      refine zs_aload_n hΓ dX5_pave_51 (pc' := 52) rfl rfl rfl ?_
      refine zs_iconst hΓ dX5_pave_52 (pc' := 53) rfl ⟨by decide, by decide⟩ ?_
      refine zs_puti hΓ dX5_pave_53 (pc' := 56) rfl fX5_476 (fun q hq => (by cases hq; exact Or.inl rfl)) (i9 := 50) rfl trivial (tw_t hTw) (show (0 : Int) ≤ 1 by decide) ?_
      refine zs_aload_n hΓ dX5_pave_56 (pc' := 57) rfl rfl rfl ?_
      refine zs_iconst hΓ dX5_pave_57 (pc' := 58) rfl ⟨by decide, by decide⟩ ?_
      refine zs_puti hΓ dX5_pave_58 (pc' := 61) rfl fX5_479 (fun q hq => (by cases hq; exact Or.inl rfl)) (i9 := 51) rfl trivial (tw_t hTw) (show (0 : Int) ≤ 1 by decide) ?_
      refine zs_iconst hΓ dX5_pave_61 (pc' := 62) rfl ⟨by decide, by decide⟩ ?_
      refine zs_istore hΓ dX5_pave_62 (pc' := 64) rfl (L' := [some (zR _), some (zI _), some (zI _), some (zI _), some (zI _)]) (by decide) rfl rfl ?_
      exact lp2 (R 0 * R 1).toNat 0 _ (by omega) (by omega) ((((hS.tr (c1_5 p1 (by decide))).set (cC5_in (by decide))).set (cC5_in (by decide))).set (cC5_in (by decide))) (by (repeat rw [gI_ot _ _ _ (n1 (by decide))]); exact (p1.row fun _ => n1 (by decide)).trans h7) (by (repeat rw [gI_ot _ _ _ (n1 (by decide))]); exact (p1.row fun _ => n1 (by decide)).trans hr9) (fun c c1 c2 => by (repeat rw [gI_ot _ _ _ (n1 (by decide))]); exact (p1.2.2 _ _ (n1 (by decide))).trans (h46 (by omega) c c1 c2)) (fun c c1 c2 => by (repeat rw [gI_ot _ _ _ (n1 (by decide))]); rw [p2 c c1 (by rw [g0, g1]; exact c2)]; exact iB_iff (by rw [hEe, hr9, T'.k.b28])) (by rw [gI_setI, if_neg (by decide), gI_setI, if_neg (by decide), gI_setI, if_pos ⟨rfl, rfl⟩]; rfl) (by rw [gI_setI, if_neg (by decide), gI_setI, if_pos ⟨rfl, rfl⟩]; rfl) (by rw [gI_setI, if_pos ⟨rfl, rfl⟩]; rfl)
    | succ m ih =>
      intro k h' hi hk0 hS h7 hr h46
      have ok9 := RowOK.wks (b := b) (mu := mu) (hs := hs) (t := ticks.toNat) T.k.t0.wf T.hd hok (by omega) (k - 1).toNat
      have ok8 := RowOK.wks (b := b) (mu := mu) (hs := hs) (t := ticks.toNat) T.k.t0.wf T.hd hok (by omega) k.toNat
      have T' := T.same (B' := B + 20000 * (k - 1).toNat) hS (by rw [hr]; exact ok9.1)
      have hTw := T'.k.tw
      have hnx : sWks (sGo b mu dry tx0 hs ticks.toNat) k.toNat R = sGo b mu dry tx0 hs ticks.toNat (sWks (sGo b mu dry tx0 hs ticks.toNat) (k - 1).toNat R) := by rw [show k.toNat = (k - 1).toNat + 1 by omega]; rfl
      refine zs_iload hΓ dX5_pave_7 (pc' := 9) rfl rfl ?_
      refine zs_iload_n hΓ dX5_pave_9 (pc' := 10) rfl rfl rfl ?_
      refine zs_icmpgt hΓ dX5_pave_10 (tgt := 38) (by decide) (pc' := 13) rfl (fun c_10 => False.elim (absurd c_10 (by omega))) (fun c_10 => ?_)
      refine zs_aload_n hΓ dX5_pave_13 (pc' := 14) rfl rfl rfl ?_
      refine zs_iload_n hΓ dX5_pave_14 (pc' := 15) rfl rfl rfl ?_
      refine zs_callVV hΓ dX5_pave_15 (pc' := 18) rfl kX5_452 (con_X5_go l T' (by omega) ticks (by omega)) (tw_t hTw) rfl rfl rfl (Nat.le_of_ble_eq_true rfl) (by omega) (by decide) (by omega) (by omega) (fun h_15 q_15 k_15 => ?_) (fun _ _ q _ => False.elim q)
      obtain ⟨p3, p4⟩ := q_15
      have hS3 := hS.tr (cW_5 p4)
      rw [hr, ← hnx] at p3
      have T3 := T.same (B' := B + 20000 * k.toNat) hS3 (by rw [p3]; exact ok8.1)
      have hTw := T3.k.tw
      have h7' : gI h_15 (1, 7) = R := (p4.row fun _ => n0j (by decide) (by decide) (by decide)).trans h7
      have g0 : gI h_15 (1, 5) 0 = R 0 := by rw [p3]; exact ok8.2 0 (by decide)
      have g1 : gI h_15 (1, 5) 1 = R 1 := by rw [p3]; exact ok8.2 1 (by decide)
      refine zs_iload hΓ dX5_pave_18 (pc' := 20) rfl rfl ?_
      refine zs_iload_n hΓ dX5_pave_20 (pc' := 21) rfl rfl rfl ?_
      refine zs_icmpne hΓ dX5_pave_21 (tgt := 32) (by decide) (pc' := 24) rfl (fun c_21 => ?_) (fun c_21 => ?_)
      · refine zs_iinc hΓ dX5_pave_32 (pc' := 35) rfl (L' := [some (zR _), some (zI _), some (zI _), some (zI _), some (zI _)]) rfl (by unfold inI; omega) (by decide) rfl rfl ?_
        refine zs_goto hΓ dX5_pave_35 (tgt := 7) (by decide) ?_
        exact ih (k + 1) _ (by omega) (by omega) hS3 h7' (by rw [p3, show k + 1 - 1 = k by omega]) (fun z c c1 c2 => (p4.2.2 _ _ (n0j (by decide) (by decide) (by decide))).trans (h46 (by omega) c c1 c2))
      · refine zs_aload_n hΓ dX5_pave_24 (pc' := 25) rfl rfl rfl ?_
        refine zs_aload_n hΓ dX5_pave_25 (pc' := 26) rfl rfl rfl ?_
        refine zs_getrE hΓ dX5_pave_26 (pc' := 29) rfl fX5_98 (i9 := 46) rfl rfl (tw_t hTw) (tw_p46 hTw) ?_
        refine zs_callVV hΓ dX5_pave_29 (pc' := 32) rfl kX5_448 (con_X5_note l hTw T3.k.ok.hd.rw 46 (by decide)) (tw_t hTw) rfl rfl rfl (Nat.le_of_ble_eq_true rfl) (by omega) (by decide) (by omega) (by omega) (fun h_29 q_29 k_29 => ?_) (fun _ _ q _ => False.elim q)
        obtain ⟨p1, p2⟩ := q_29
        refine zs_iinc hΓ dX5_pave_32 (pc' := 35) rfl (L' := [some (zR _), some (zI _), some (zI _), some (zI _), some (zI _)]) rfl (by unfold inI; omega) (by decide) rfl rfl ?_
        refine zs_goto hΓ dX5_pave_35 (tgt := 7) (by decide) ?_
        exact ih (k + 1) _ (by omega) (by omega) (hS3.tr (c1_5 p1 (by decide))) ((p1.row fun _ => n1 (by decide)).trans h7') (by rw [p1.row fun _ => n1 (by decide), p3, show k + 1 - 1 = k by omega]) (fun z c c1 c2 => by rw [p2 c c1 (by rw [g0, g1]; exact c2), T3.k.b28]; exact iB_iff (by rw [hDe, p3, c_21]))
  have hTw := T.k.tw
  refine zs_aload_n hΓ dX5_pave_0 (pc' := 1) rfl rfl rfl ?_
  refine zs_callVV hΓ dX5_pave_1 (pc' := 4) rfl kX5_445 (con_X5_layAside l hTw) (tw_t hTw) rfl rfl rfl (Nat.le_of_ble_eq_true rfl) (by omega) (by decide) (by omega) (by omega) (fun h_1 q_1 k_1 => ?_) (fun _ _ q _ => False.elim q)
  obtain ⟨p1, p2⟩ := q_1
  refine zs_iconst hΓ dX5_pave_4 (pc' := 5) rfl ⟨by decide, by decide⟩ ?_
  refine zs_istore hΓ dX5_pave_5 (pc' := 7) rfl (L' := [some (zR _), some (zI _), some (zI _), some (zI _), some (zI _)]) (by decide) rfl rfl ?_
  exact lp1 weeks.toNat 1 _ (by omega) (by omega) (c1_5 p1 (by decide)) (by rw [p2, hR]) (by rw [p1.row fun _ => n1 (by decide)]; exact hR) (fun z => by omega)
theorem con_X5_paved (l : Launch) {h h1 : zH} (e1 : h1 = setI h (1, 0) 0 0) {B b mu dry : Int} {tx0 : zTx} {hs : Int → zTx} (T : TwD h1 B b mu dry tx0 hs) (hB : B ≤ 600000000) (w weeks ticks what : Int) : Con l mX5_paved 12 0 0 [zR (some (1, 0)), zI w, zI weeks, zI ticks, zI what] h (rI fun x h' => (((1 ≤ weeks ∧ weeks ≤ 20) ∧ (1 ≤ w ∧ w ≤ weeks) ∧ (1 ≤ ticks ∧ ticks ≤ 200) ∧ 0 ≤ what ∧ what ≤ 2) → x = (if what = 0 then sPv0 (sGo b mu dry tx0 hs ticks.toNat) b w (gI h1 (1, 5)) else if what = 1 then sPvD (sGo b mu dry tx0 hs ticks.toNat) b w weeks (gI h1 (1, 5)) else sPvD (sGo b mu dry tx0 hs ticks.toNat) b weeks w (gI h1 (1, 5))) ∧ Same cC h1 h') ∧ (¬ ((1 ≤ weeks ∧ weeks ≤ 20) ∧ (1 ≤ w ∧ w ≤ weeks) ∧ (1 ≤ ticks ∧ ticks ≤ 200) ∧ 0 ≤ what ∧ what ≤ 2) → x = -1 ∧ h' = h1)) zNo := by
  refine Con.ofS (by decide +kernel) (Nat.le_of_ble_eq_true rfl) fun Γ hΓ hno hwf hav => ?_
  have hΓ : Ctx Γ l cX5_paved RX5 "paved" 5 (Option.some Jvm.ClassFile.FieldType.int) _ _ 12 _ _ := hΓ
  show SS Γ 0 [some (zR _), some (zI _), some (zI _), some (zI _), some (zI _)] [] _ 0 0
  have hTw := T.k.tw.thr e1
  refine zs_aload_n hΓ dX5_paved_0 (pc' := 1) rfl rfl rfl ?_
  refine zs_iconst hΓ dX5_paved_1 (pc' := 2) rfl ⟨by decide, by decide⟩ ?_
  refine zs_puti hΓ dX5_paved_2 (pc' := 5) rfl fX5_1 (fun q hq => (by cases hq; exact Or.inl rfl)) (i9 := 0) rfl trivial (tw_t hTw) (show (0 : Int) ≤ 1 by decide) ?_
  rw [← e1]; have hTw := T.k.tw
  refine zs_iload_n hΓ dX5_paved_5 (pc' := 6) rfl rfl rfl ?_
  refine zs_iconst hΓ dX5_paved_6 (pc' := 7) rfl ⟨by decide, by decide⟩ ?_
  refine zs_bipush hΓ dX5_paved_7 (pc' := 9) rfl ⟨by decide, by decide⟩ ?_
  refine zs_callSIP hΓ dX5_paved_9 (pc' := 12) rfl kX5_132 (con_X5_isIn l _ _ _) rfl rfl (Nat.le_of_ble_eq_true rfl) (by omega) (by decide) (by omega) (by omega) ?_ (fun _ _ q _ => False.elim q)
  refine zs_ifeq hΓ dX5_paved_12 (tgt := 45) (by decide) (pc' := 15) rfl (fun c_12 => ?_) (fun c_12 => ?_)
  · try have c_12 := iB_eq c_12
    refine zs_iconst hΓ dX5_paved_45 (pc' := 46) rfl ⟨by decide, by decide⟩ ?_
    exact zs_iret hΓ dX5_paved_46 rfl (by omega) (by omega) (⟨_, rfl, fun z => by omega, fun _ => ⟨rfl, rfl⟩⟩)
  · try have c_12 := iB_ne c_12
    refine zs_iload_n hΓ dX5_paved_15 (pc' := 16) rfl rfl rfl ?_
    refine zs_iconst hΓ dX5_paved_16 (pc' := 17) rfl ⟨by decide, by decide⟩ ?_
    refine zs_iload_n hΓ dX5_paved_17 (pc' := 18) rfl rfl rfl ?_
    refine zs_callSIP hΓ dX5_paved_18 (pc' := 21) rfl kX5_132 (con_X5_isIn l _ _ _) rfl rfl (Nat.le_of_ble_eq_true rfl) (by omega) (by decide) (by omega) (by omega) ?_ (fun _ _ q _ => False.elim q)
    refine zs_ifeq hΓ dX5_paved_21 (tgt := 45) (by decide) (pc' := 24) rfl (fun c_21 => ?_) (fun c_21 => ?_)
    · try have c_21 := iB_eq c_21
      refine zs_iconst hΓ dX5_paved_45 (pc' := 46) rfl ⟨by decide, by decide⟩ ?_
      exact zs_iret hΓ dX5_paved_46 rfl (by omega) (by omega) (⟨_, rfl, fun z => by omega, fun _ => ⟨rfl, rfl⟩⟩)
    · try have c_21 := iB_ne c_21
      refine zs_iload_n hΓ dX5_paved_24 (pc' := 25) rfl rfl rfl ?_
      refine zs_iconst hΓ dX5_paved_25 (pc' := 26) rfl ⟨by decide, by decide⟩ ?_
      refine zs_sipush hΓ dX5_paved_26 (pc' := 29) rfl ⟨by decide, by decide⟩ ?_
      refine zs_callSIP hΓ dX5_paved_29 (pc' := 32) rfl kX5_132 (con_X5_isIn l _ _ _) rfl rfl (Nat.le_of_ble_eq_true rfl) (by omega) (by decide) (by omega) (by omega) ?_ (fun _ _ q _ => False.elim q)
      refine zs_ifeq hΓ dX5_paved_32 (tgt := 45) (by decide) (pc' := 35) rfl (fun c_32 => ?_) (fun c_32 => ?_)
      · try have c_32 := iB_eq c_32
        refine zs_iconst hΓ dX5_paved_45 (pc' := 46) rfl ⟨by decide, by decide⟩ ?_
        exact zs_iret hΓ dX5_paved_46 rfl (by omega) (by omega) (⟨_, rfl, fun z => by omega, fun _ => ⟨rfl, rfl⟩⟩)
      · try have c_32 := iB_ne c_32
        refine zs_iload hΓ dX5_paved_35 (pc' := 37) rfl rfl ?_
        refine zs_iconst hΓ dX5_paved_37 (pc' := 38) rfl ⟨by decide, by decide⟩ ?_
        refine zs_iconst hΓ dX5_paved_38 (pc' := 39) rfl ⟨by decide, by decide⟩ ?_
        refine zs_callSIP hΓ dX5_paved_39 (pc' := 42) rfl kX5_132 (con_X5_isIn l _ _ _) rfl rfl (Nat.le_of_ble_eq_true rfl) (by omega) (by decide) (by omega) (by omega) ?_ (fun _ _ q _ => False.elim q)
        refine zs_ifne hΓ dX5_paved_42 (tgt := 47) (by decide) (pc' := 45) rfl (fun c_42 => ?_) (fun c_42 => ?_)
        · try have c_42 := iB_ne c_42
          refine zs_aload_n hΓ dX5_paved_47 (pc' := 48) rfl rfl rfl ?_
          refine zs_iload_n hΓ dX5_paved_48 (pc' := 49) rfl rfl rfl ?_
          refine zs_iload_n hΓ dX5_paved_49 (pc' := 50) rfl rfl rfl ?_
          refine zs_iload_n hΓ dX5_paved_50 (pc' := 51) rfl rfl rfl ?_
          refine zs_callVV hΓ dX5_paved_51 (pc' := 54) rfl kX5_482 (con_X5_pave l T hB w weeks ticks (by omega) (by omega) (by omega)) (tw_t hTw) rfl rfl rfl (Nat.le_of_ble_eq_true rfl) (by omega) (by decide) (by omega) (by omega) (fun h_51 q_51 k_51 => ?_) (fun _ _ q _ => False.elim q)
          obtain ⟨p1, p2, p3, p4⟩ := q_51
          have hTw := hTw.same p1
          refine zs_iload hΓ dX5_paved_54 (pc' := 56) rfl rfl ?_
          refine zs_ifne hΓ dX5_paved_56 (tgt := 66) (by decide) (pc' := 59) rfl (fun c_56 => ?_) (fun c_56 => ?_)
          · refine zs_iload hΓ dX5_paved_66 (pc' := 68) rfl rfl ?_
            refine zs_iconst hΓ dX5_paved_68 (pc' := 69) rfl ⟨by decide, by decide⟩ ?_
            refine zs_icmpne hΓ dX5_paved_69 (tgt := 79) (by decide) (pc' := 72) rfl (fun c_69 => ?_) (fun c_69 => ?_)
            · refine zs_aload_n hΓ dX5_paved_79 (pc' := 80) rfl rfl rfl ?_
              refine zs_geti hΓ dX5_paved_80 (pc' := 83) rfl fX5_479 (i9 := 51) rfl rfl (tw_t hTw) ?_
              refine zs_eqI p4 ?_
              exact zs_iret hΓ dX5_paved_83 rfl (by omega) (by omega) (⟨_, rfl, fun z => ⟨by rw [if_neg c_56, if_neg c_69], p1⟩, fun z => by omega⟩)
            · refine zs_aload_n hΓ dX5_paved_72 (pc' := 73) rfl rfl rfl ?_
              refine zs_geti hΓ dX5_paved_73 (pc' := 76) rfl fX5_476 (i9 := 50) rfl rfl (tw_t hTw) ?_
              refine zs_eqI p3 ?_
              refine zs_goto hΓ dX5_paved_76 (tgt := 83) (by decide) ?_
              exact zs_iret hΓ dX5_paved_83 rfl (by omega) (by omega) (⟨_, rfl, fun z => ⟨by rw [if_neg c_56, if_pos c_69], p1⟩, fun z => by omega⟩)
          · refine zs_aload_n hΓ dX5_paved_59 (pc' := 60) rfl rfl rfl ?_
            refine zs_geti hΓ dX5_paved_60 (pc' := 63) rfl fX5_473 (i9 := 49) rfl rfl (tw_t hTw) ?_
            refine zs_eqI p2 ?_
            refine zs_goto hΓ dX5_paved_63 (tgt := 83) (by decide) ?_
            exact zs_iret hΓ dX5_paved_83 rfl (by omega) (by omega) (⟨_, rfl, fun z => ⟨by rw [if_pos c_56], p1⟩, fun z => by omega⟩)
        · try have c_42 := iB_eq c_42
          refine zs_iconst hΓ dX5_paved_45 (pc' := 46) rfl ⟨by decide, by decide⟩ ?_
          exact zs_iret hΓ dX5_paved_46 rfl (by omega) (by omega) (⟨_, rfl, fun z => by omega, fun _ => ⟨rfl, rfl⟩⟩)
