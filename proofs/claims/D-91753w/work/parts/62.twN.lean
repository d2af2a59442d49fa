/-! THE TWIN, N: wait, fences -/
set_option maxRecDepth 100000
/-- the least of v(1) .. v(n), the first of them: its place and it -/
noncomputable def sMin (v : Int → Int) : Nat → Int × Int
  | 0 => (-1, 0)
  | n + 1 => zIf (0 ≤ (sMin v n).1 ∧ (sMin v n).2 ≤ v (n + 1)) (sMin v n) ((n : Int) + 1, v (n + 1))
theorem sMin_r (v : Int → Int) : ∀ n : Nat, (n = 0 → (sMin v n).1 = -1) ∧ (n ≠ 0 → 1 ≤ (sMin v n).1 ∧ (sMin v n).1 ≤ n ∧ (sMin v n).2 = v (sMin v n).1)
  | 0 => ⟨fun _ => rfl, fun h => absurd rfl h⟩
  | n + 1 => by
    refine ⟨fun h => absurd h (by omega), fun _ => ?_⟩
    have ih := sMin_r v n
    unfold sMin
    by_cases c : 0 ≤ (sMin v n).1 ∧ (sMin v n).2 ≤ v (n + 1)
    · rw [zIf_t c]
      have hn : n ≠ 0 := fun e => by have := ih.1 e; omega
      have := ih.2 hn
      omega
    · rw [zIf_f c]
      exact ⟨by show 1 ≤ (n : Int) + 1; omega, by show (n : Int) + 1 ≤ ((n + 1 : Nat) : Int); omega, rfl⟩
noncomputable def sWaitV (g : (Int → Int) → (Int → Int)) (b weeks : Int) (R : Int → Int) (w : Int) : Int := sPvD g b w weeks R + sPvD g b weeks w R + w
theorem sPvD_r (g : (Int → Int) → (Int → Int)) (b w w' : Int) {R : Int → Int} (hw : RW R) : 0 ≤ sPvD g b w w' R ∧ sPvD g b w w' R ≤ 256 := by
  unfold sPvD
  have h1 := hw.c
  have h2 := cntP_r (fun c => sPv g b w R c ∧ ¬ sPv g b w' R c) (R 0 * R 1).toNat
  omega
theorem con_X5_wait (l : Launch) {h h1 : zH} (e1 : h1 = setI h (1, 0) 0 0) {B b mu dry : Int} {tx0 : zTx} {hs : Int → zTx} (T : TwD h1 B b mu dry tx0 hs) (hB : B ≤ 600000000) (weeks ticks : Int) : Con l mX5_wait 12 0 0 [zR (some (1, 0)), zI weeks, zI ticks] h (rI fun x h' => (((1 ≤ weeks ∧ weeks ≤ 20) ∧ 1 ≤ ticks ∧ ticks ≤ 200) → x = (sMin (sWaitV (sGo b mu dry tx0 hs ticks.toNat) b weeks (gI h1 (1, 5))) weeks.toNat).1 ∧ Same cC h1 h') ∧ (¬ ((1 ≤ weeks ∧ weeks ≤ 20) ∧ 1 ≤ ticks ∧ ticks ≤ 200) → x = -1 ∧ h' = h1)) zNo := by
  refine Con.ofS (by decide +kernel) (Nat.le_of_ble_eq_true rfl) fun Γ hΓ hno hwf hav => ?_
  have hΓ : Ctx Γ l cX5_wait RX5 "wait" 7 (Option.some Jvm.ClassFile.FieldType.int) _ _ 12 _ _ := hΓ
  show SS Γ 0 [some (zR _), some (zI _), some (zI _), none, none, none, none] [] _ 0 0
  have hTw := T.k.tw.thr e1
  have hok := T.k.ok
  have hw9 := hok.hd.rw
  generalize hR : gI h1 (1, 5) = R at *
  generalize hv : sWaitV (sGo b mu dry tx0 hs ticks.toNat) b weeks R = v
  have lp : ((1 ≤ weeks ∧ weeks ≤ 20) ∧ 1 ≤ ticks ∧ ticks ≤ 200) → ∀ (m : Nat) (n : Nat) (h' : zH), (n : Int) + m = weeks → Same cC h1 h' → SS Γ 36 [some (zR (some (1, 0))), some (zI weeks), some (zI ticks), some (zI (sMin v n).1), some (zI (sMin v n).2), some (zI ((n : Int) + 1)), none] [] h' 0 0 := by
    intro hc m
    induction m with
    | zero =>
      intro n h' hi hS
      have hTw := T.k.tw.same hS
      refine zs_iload hΓ dX5_wait_36 (pc' := 38) rfl rfl ?_
      refine zs_iload_n hΓ dX5_wait_38 (pc' := 39) rfl rfl rfl ?_
      refine zs_icmpgt hΓ dX5_wait_39 (tgt := 91) (by decide) (pc' := 42) rfl (fun c_39 => ?_) (fun c_39 => False.elim (absurd c_39 (by omega)))
      refine zs_iload_n hΓ dX5_wait_91 (pc' := 92) rfl rfl rfl ?_
      exact zs_iret hΓ dX5_wait_92 rfl (by omega) (by omega) (⟨_, rfl, fun _ => ⟨by rw [hv, show n = weeks.toNat by omega], hS⟩, fun z => absurd hc z⟩)
    | succ m ih =>
      intro n h' hi hS
      have r9 : gI h' (1, 5) = R := (hS.row fun _ => cC_no (by omega)).trans hR
      have T' := T.same (B' := B) (hS.mono fun _ _ z => Or.inl z) (by rw [r9]; exact hok)
      have hTw := T'.k.tw
      have hu : sMin v (n + 1) = zIf (0 ≤ (sMin v n).1 ∧ (sMin v n).2 ≤ v (n + 1)) (sMin v n) ((n : Int) + 1, v (n + 1)) := rfl
      have ihn : ∀ h'', Same cC h1 h'' → SS Γ 36 [some (zR (some (1, 0))), some (zI weeks), some (zI ticks), some (zI (sMin v (n + 1)).1), some (zI (sMin v (n + 1)).2), some (zI ((n : Int) + 1 + 1)), none] [] h'' 0 0 := fun h'' a => by
        have := ih (n + 1) h'' (by omega) a
        rw [show ((n + 1 : Nat) : Int) + 1 = (n : Int) + 1 + 1 by omega] at this
        exact this
      have hve : v ((n : Int) + 1) = sPvD (sGo b mu dry tx0 hs ticks.toNat) b ((n : Int) + 1) weeks R + sPvD (sGo b mu dry tx0 hs ticks.toNat) b weeks ((n : Int) + 1) R + ((n : Int) + 1) := by rw [← hv]; rfl
      have z1 := sPvD_r (sGo b mu dry tx0 hs ticks.toNat) b ((n : Int) + 1) weeks hw9
      have z2 := sPvD_r (sGo b mu dry tx0 hs ticks.toNat) b weeks ((n : Int) + 1) hw9
      refine zs_iload hΓ dX5_wait_36 (pc' := 38) rfl rfl ?_
      refine zs_iload_n hΓ dX5_wait_38 (pc' := 39) rfl rfl rfl ?_
      refine zs_icmpgt hΓ dX5_wait_39 (tgt := 91) (by decide) (pc' := 42) rfl (fun c_39 => False.elim (absurd c_39 (by omega))) (fun c_39 => ?_)
      refine zs_aload_n hΓ dX5_wait_42 (pc' := 43) rfl rfl rfl ?_
      refine zs_iload hΓ dX5_wait_43 (pc' := 45) rfl rfl ?_
      refine zs_iload_n hΓ dX5_wait_45 (pc' := 46) rfl rfl rfl ?_
      refine zs_iload_n hΓ dX5_wait_46 (pc' := 47) rfl rfl rfl ?_
      refine zs_callVV hΓ dX5_wait_47 (pc' := 50) rfl kX5_482 (con_X5_pave l T' hB ((n : Int) + 1) weeks ticks (by omega) (by omega) (by omega)) (tw_t hTw) rfl rfl rfl (Nat.le_of_ble_eq_true rfl) (by omega) (by decide) (by omega) (by omega) (fun h_47 q_47 k_47 => ?_) (fun _ _ q _ => False.elim q)
      obtain ⟨p1, p2, p3, p4⟩ := q_47
      rw [r9] at p3 p4
      have hTw := hTw.same p1
      have hS2 := hS.tr p1
      refine zs_aload_n hΓ dX5_wait_50 (pc' := 51) rfl rfl rfl ?_
      refine zs_geti hΓ dX5_wait_51 (pc' := 54) rfl fX5_476 (i9 := 50) rfl rfl (tw_t hTw) ?_
      refine zs_eqI p3 ?_
      refine zs_aload_n hΓ dX5_wait_54 (pc' := 55) rfl rfl rfl ?_
      refine zs_geti hΓ dX5_wait_55 (pc' := 58) rfl fX5_479 (i9 := 51) rfl rfl (tw_t hTw) ?_
      refine zs_eqI p4 ?_
      refine zs_iadd hΓ dX5_wait_58 (pc' := 59) rfl (by unfold inI; omega) ?_
      refine zs_iload hΓ dX5_wait_59 (pc' := 61) rfl rfl ?_
      refine zs_iadd hΓ dX5_wait_61 (pc' := 62) rfl (by unfold inI; omega) ?_
      rw [← hve]
      refine zs_istore hΓ dX5_wait_62 (pc' := 64) rfl (L' := [some (zR _), some (zI _), some (zI _), some (zI _), some (zI _), some (zI _), some (zI _)]) (by decide) rfl rfl ?_
      refine zs_iload_n hΓ dX5_wait_64 (pc' := 65) rfl rfl rfl ?_
      refine zs_iflt hΓ dX5_wait_65 (tgt := 78) (by decide) (pc' := 68) rfl (fun c_65 => ?_) (fun c_65 => ?_)
      · refine zs_iload hΓ dX5_wait_78 (pc' := 80) rfl rfl ?_
        refine zs_istore hΓ dX5_wait_80 (pc' := 82) rfl (L' := [some (zR _), some (zI _), some (zI _), some (zI _), some (zI _), some (zI _), some (zI _)]) (by decide) rfl rfl ?_
        refine zs_iload hΓ dX5_wait_82 (pc' := 84) rfl rfl ?_
        refine zs_istore_n hΓ dX5_wait_84 (pc' := 85) rfl (L' := [some (zR _), some (zI _), some (zI _), some (zI _), some (zI _), some (zI _), some (zI _)]) rfl (by decide) rfl rfl ?_
        refine zs_iinc hΓ dX5_wait_85 (pc' := 88) rfl (L' := [some (zR _), some (zI _), some (zI _), some (zI _), some (zI _), some (zI _), some (zI _)]) rfl (by unfold inI; omega) (by decide) rfl rfl ?_
        refine zs_goto hΓ dX5_wait_88 (tgt := 36) (by decide) ?_
        refine zs_drop 6 (L' := [some (zR _), some (zI _), some (zI _), some (zI _), some (zI _), some (zI _), none]) rfl ?_
        have h9 := ihn _ hS2
        rw [hu, zIf_f (fun z => by omega)] at h9
        exact h9
      · refine zs_iload hΓ dX5_wait_68 (pc' := 70) rfl rfl ?_
        refine zs_iload hΓ dX5_wait_70 (pc' := 72) rfl rfl ?_
        refine zs_icmplt hΓ dX5_wait_72 (tgt := 78) (by decide) (pc' := 75) rfl (fun c_72 => ?_) (fun c_72 => ?_)
        · refine zs_iload hΓ dX5_wait_78 (pc' := 80) rfl rfl ?_
          refine zs_istore hΓ dX5_wait_80 (pc' := 82) rfl (L' := [some (zR _), some (zI _), some (zI _), some (zI _), some (zI _), some (zI _), some (zI _)]) (by decide) rfl rfl ?_
          refine zs_iload hΓ dX5_wait_82 (pc' := 84) rfl rfl ?_
          refine zs_istore_n hΓ dX5_wait_84 (pc' := 85) rfl (L' := [some (zR _), some (zI _), some (zI _), some (zI _), some (zI _), some (zI _), some (zI _)]) rfl (by decide) rfl rfl ?_
          refine zs_iinc hΓ dX5_wait_85 (pc' := 88) rfl (L' := [some (zR _), some (zI _), some (zI _), some (zI _), some (zI _), some (zI _), some (zI _)]) rfl (by unfold inI; omega) (by decide) rfl rfl ?_
          refine zs_goto hΓ dX5_wait_88 (tgt := 36) (by decide) ?_
          refine zs_drop 6 (L' := [some (zR _), some (zI _), some (zI _), some (zI _), some (zI _), some (zI _), none]) rfl ?_
          have h9 := ihn _ hS2
          rw [hu, zIf_f (fun z => by omega)] at h9
          exact h9
        · refine zs_goto hΓ dX5_wait_75 (tgt := 85) (by decide) ?_
          refine zs_iinc hΓ dX5_wait_85 (pc' := 88) rfl (L' := [some (zR _), some (zI _), some (zI _), some (zI _), some (zI _), some (zI _), some (zI _)]) rfl (by unfold inI; omega) (by decide) rfl rfl ?_
          refine zs_goto hΓ dX5_wait_88 (tgt := 36) (by decide) ?_
          refine zs_drop 6 (L' := [some (zR _), some (zI _), some (zI _), some (zI _), some (zI _), some (zI _), none]) rfl ?_
          have h9 := ihn _ hS2
          rw [hu, zIf_t (by omega)] at h9
          exact h9
  refine zs_aload_n hΓ dX5_wait_0 (pc' := 1) rfl rfl rfl ?_
  refine zs_iconst hΓ dX5_wait_1 (pc' := 2) rfl ⟨by decide, by decide⟩ ?_
  refine zs_puti hΓ dX5_wait_2 (pc' := 5) rfl fX5_1 (fun q hq => (by cases hq; exact Or.inl rfl)) (i9 := 0) rfl trivial (tw_t hTw) (show (0 : Int) ≤ 1 by decide) ?_
  rw [← e1]; have hTw := T.k.tw
  refine zs_iload_n hΓ dX5_wait_5 (pc' := 6) rfl rfl rfl ?_
  refine zs_iconst hΓ dX5_wait_6 (pc' := 7) rfl ⟨by decide, by decide⟩ ?_
  refine zs_bipush hΓ dX5_wait_7 (pc' := 9) rfl ⟨by decide, by decide⟩ ?_
  refine zs_callSIP hΓ dX5_wait_9 (pc' := 12) rfl kX5_132 (con_X5_isIn l _ _ _) rfl rfl (Nat.le_of_ble_eq_true rfl) (by omega) (by decide) (by omega) (by omega) ?_ (fun _ _ q _ => False.elim q)
  refine zs_ifeq hΓ dX5_wait_12 (tgt := 26) (by decide) (pc' := 15) rfl (fun c_12 => ?_) (fun c_12 => ?_)
  · try have c_12 := iB_eq c_12
    refine zs_iconst hΓ dX5_wait_26 (pc' := 27) rfl ⟨by decide, by decide⟩ ?_
    exact zs_iret hΓ dX5_wait_27 rfl (by omega) (by omega) (⟨_, rfl, fun z => absurd z.1 c_12, fun _ => ⟨rfl, rfl⟩⟩)
  · try have c_12 := iB_ne c_12
    refine zs_iload_n hΓ dX5_wait_15 (pc' := 16) rfl rfl rfl ?_
    refine zs_iconst hΓ dX5_wait_16 (pc' := 17) rfl ⟨by decide, by decide⟩ ?_
    refine zs_sipush hΓ dX5_wait_17 (pc' := 20) rfl ⟨by decide, by decide⟩ ?_
    refine zs_callSIP hΓ dX5_wait_20 (pc' := 23) rfl kX5_132 (con_X5_isIn l _ _ _) rfl rfl (Nat.le_of_ble_eq_true rfl) (by omega) (by decide) (by omega) (by omega) ?_ (fun _ _ q _ => False.elim q)
    refine zs_ifne hΓ dX5_wait_23 (tgt := 28) (by decide) (pc' := 26) rfl (fun c_23 => ?_) (fun c_23 => ?_)
    · try have c_23 := iB_ne c_23
      refine zs_iconst hΓ dX5_wait_28 (pc' := 29) rfl ⟨by decide, by decide⟩ ?_
      refine zs_istore_n hΓ dX5_wait_29 (pc' := 30) rfl (L' := [some (zR _), some (zI _), some (zI _), some (zI _), none, none, none]) rfl (by decide) rfl rfl ?_
      refine zs_iconst hΓ dX5_wait_30 (pc' := 31) rfl ⟨by decide, by decide⟩ ?_
      refine zs_istore hΓ dX5_wait_31 (pc' := 33) rfl (L' := [some (zR _), some (zI _), some (zI _), some (zI _), some (zI _), none, none]) (by decide) rfl rfl ?_
      refine zs_iconst hΓ dX5_wait_33 (pc' := 34) rfl ⟨by decide, by decide⟩ ?_
      refine zs_istore hΓ dX5_wait_34 (pc' := 36) rfl (L' := [some (zR _), some (zI _), some (zI _), some (zI _), some (zI _), some (zI _), none]) (by decide) rfl rfl ?_
      exact lp ⟨c_12, c_23⟩ weeks.toNat 0 _ (by omega) (Same.rf _ _)
    · try have c_23 := iB_eq c_23
      refine zs_iconst hΓ dX5_wait_26 (pc' := 27) rfl ⟨by decide, by decide⟩ ?_
      exact zs_iret hΓ dX5_wait_27 rfl (by omega) (by omega) (⟨_, rfl, fun z => absurd z.2 c_23, fun _ => ⟨rfl, rfl⟩⟩)
/-- one more fence, or none -/
def sFence (R : Int → Int) (a : Int) : Int → Int := if 0 ≤ a then sLay R a 6 else R
theorem sFence_lo (R : Int → Int) (a : Int) {j : Int} (hj : j < 522) : sFence R a j = R j := by
  unfold sFence
  split
  · unfold sLay
    rw [if_neg (by decide), upR_n _ _ (by omega), upR_n _ _ (by omega)]
  · rfl
theorem RowOK.fenced {B kx : Int} {R : Int → Int} (h : RowOK B kx R) {a : Int} (ha : a = -1 ∨ (0 ≤ a ∧ a < 256) ∧ ¬ sDoorAt R a) : RowOK B kx (sFence R a) := by
  unfold sFence
  split
  · exact h.fence (ha.resolve_left (by omega)).1 (ha.resolve_left (by omega)).2
  · exact h
theorem sDoorAt_fence {B kx : Int} {R : Int → Int} (h : RowOK B kx R) {a c : Int} : sDoorAt (sFence R a) c ↔ sDoorAt R c := by
  have hd := h.hd.d
  unfold sDoorAt
  rw [sFence_lo R a (by decide)]
  constructor
  · rintro ⟨d, d1, d2, d3⟩
    exact ⟨d, d1, d2, by rw [← d3, sFence_lo R a (by omega)]⟩
  · rintro ⟨d, d1, d2, d3⟩
    exact ⟨d, d1, d2, by rw [← d3, sFence_lo R a (by omega)]⟩
/-- whether somebody steps on cell c with two fences -/
def sTrod (b mu : Int) (tx0 : zTx) (hs : Int → zTx) (n : Nat) (R : Int → Int) (c a1 a2 : Int) : Prop := cel (sFence (sFence R a1) a2) c 6 < cel (sTicks b mu tx0 hs n (sFence (sFence R a1) a2)) c 6
theorem con_X5_isTrod (l : Launch) {h : zH} {B b mu dry : Int} {tx0 : zTx} {hs : Int → zTx} (T : TwD h B b mu dry tx0 hs) (hB : B ≤ 600000000) (a1 a2 ticks c : Int) (ht : 1 ≤ ticks ∧ ticks ≤ 100) (h40 : gI h (1, 0) 40 = c) (hc : 0 ≤ c) (ha1 : a1 = -1 ∨ (0 ≤ a1 ∧ a1 < 256) ∧ ¬ sDoorAt (gI h (1, 5)) a1) (ha2 : a2 = -1 ∨ (0 ≤ a2 ∧ a2 < 256) ∧ ¬ sDoorAt (gI h (1, 5)) a2) : Con l mX5_isTrod 10 0 0 [zR (some (1, 0)), zI a1, zI a2, zI ticks] h (rI fun x h' => x = iB (sTrod b mu tx0 hs ticks.toNat (gI h (1, 5)) c a1 a2) ∧ Same cC h h') zNo := by
  refine Con.ofS (by decide +kernel) (Nat.le_of_ble_eq_true rfl) fun Γ hΓ hno hwf hav => ?_
  have hΓ : Ctx Γ l cX5_isTrod RX5 "isTrod" 5 (Option.some Jvm.ClassFile.FieldType.boolean) _ _ 10 _ _ := hΓ
  show SS Γ 0 [some (zR _), some (zI _), some (zI _), some (zI _), none] [] _ 0 0
  have hok := T.k.ok
  have hTw := T.k.tw
  generalize hR : gI h (1, 5) = R at *
  have ok2 := (hok.fenced ha1).fenced (ha2.imp id fun z => ⟨z.1, fun q => z.2 ((sDoorAt_fence hok).mp q)⟩)
  have hT : sTrod b mu tx0 hs ticks.toNat R c a1 a2 ↔ cel (sFence (sFence R a1) a2) c 6 < cel (sTicks b mu tx0 hs ticks.toNat (sFence (sFence R a1) a2)) c 6 := Iff.rfl
  generalize hR2 : sFence (sFence R a1) a2 = R2 at *
  have hx := T.k.t0.wf
  have fin : ∀ (n : Nat) (h' : zH), Same cC5 h h' → gI h' (1, 7) = R → (n ≤ ticks.toNat) → gI h' (1, 0) 42 = iB (cel R2 c 6 < cel (sTicks b mu tx0 hs n R2) c 6) → (n = ticks.toNat ∨ gI h' (1, 0) 42 ≠ 0) → SS Γ 57 [some (zR (some (1, 0))), some (zI a1), some (zI a2), some (zI ticks), some (zI n)] [] h' 0 0 := by
    intro n h' hS h7 hn h42 hne
    have hTw := hTw.same hS
    have e : gI h' (1, 0) 42 = iB (cel R2 c 6 < cel (sTicks b mu tx0 hs ticks.toNat R2) c 6) := by
      rw [h42]
      rcases hne with e | e
      · rw [e]
      · rw [h42] at e
        have q := iB_ne e
        have := sTicks_sn (b := b) (mu := mu) (hs := hs) hx ok2 hc n ticks.toNat hn
        exact (iB_t q).symm.trans (iB_t (by omega))
    refine zs_aload_n hΓ dX5_isTrod_57 (pc' := 58) rfl rfl rfl ?_
    refine zs_callVV hΓ dX5_isTrod_58 (pc' := 61) rfl kX5_459 (con_X5_layBack l hTw) (tw_t hTw) rfl rfl rfl (Nat.le_of_ble_eq_true rfl) (by omega) (by decide) (by omega) (by omega) (fun h_58 q_58 k_58 => ?_) (fun _ _ q _ => False.elim q)
    obtain ⟨p1, p2⟩ := q_58
    have hTw := hTw.same p1
    refine zs_aload_n hΓ dX5_isTrod_61 (pc' := 62) rfl rfl rfl ?_
    refine zs_geti hΓ dX5_isTrod_62 (pc' := 65) rfl fX5_405 (i9 := 42) rfl rfl (tw_t hTw) ?_
    refine zs_eqI ((p1.2.2 _ _ (n1 (by decide))).trans e) ?_
    exact zs_zret hΓ dX5_isTrod_65 rfl (by first | omega | exact iB_01 _) (by omega) (by omega) (⟨_, rfl, (iB_iff hT).symm, cC5_back (hS.tr (c1_5 p1 (by decide))) (by rw [p2, h7, hR])⟩)
  have lp : ∀ (m : Nat) (n : Nat) (h' : zH), n + m = ticks.toNat → Same cC5 h h' → gI h' (1, 7) = R → gI h' (1, 5) = sTicks b mu tx0 hs n R2 → gI h' (1, 0) 42 = iB (cel R2 c 6 < cel (sTicks b mu tx0 hs n R2) c 6) → SS Γ 34 [some (zR (some (1, 0))), some (zI a1), some (zI a2), some (zI ticks), some (zI n)] [] h' 0 0 := by
    intro m
    induction m with
    | zero =>
      intro n h' hi hS h7 hr h42
      have hTw := hTw.same hS
      refine zs_iload hΓ dX5_isTrod_34 (pc' := 36) rfl rfl ?_
      refine zs_iload_n hΓ dX5_isTrod_36 (pc' := 37) rfl rfl rfl ?_
      refine zs_icmpge hΓ dX5_isTrod_37 (tgt := 57) (by decide) (pc' := 40) rfl (fun c_37 => ?_) (fun c_37 => False.elim (absurd c_37 (by omega)))
      exact fin n h' hS h7 (by omega) h42 (Or.inl (by omega))
    | succ m ih =>
      intro n h' hi hS h7 hr h42
      have T' := T.same (B' := B + 100 * n) hS (by rw [hr]; exact (RowOK.ticks (b := b) (mu := mu) (hs := hs) hx ok2 n).1)
      have hTw := T'.k.tw
      have e40 : gI h' (1, 0) 40 = c := (hS.2.2 _ _ (cC5_no (by decide))).trans h40
      refine zs_iload hΓ dX5_isTrod_34 (pc' := 36) rfl rfl ?_
      refine zs_iload_n hΓ dX5_isTrod_36 (pc' := 37) rfl rfl rfl ?_
      refine zs_icmpge hΓ dX5_isTrod_37 (tgt := 57) (by decide) (pc' := 40) rfl (fun c_37 => False.elim (absurd c_37 (by omega))) (fun c_37 => ?_)
      refine zs_aload_n hΓ dX5_isTrod_40 (pc' := 41) rfl rfl rfl ?_
      refine zs_geti hΓ dX5_isTrod_41 (pc' := 44) rfl fX5_405 (i9 := 42) rfl rfl (tw_t hTw) ?_
      refine zs_ifne hΓ dX5_isTrod_44 (tgt := 57) (by decide) (pc' := 47) rfl (fun c_44 => ?_) (fun c_44 => ?_)
      · exact fin n h' hS h7 (by omega) h42 (Or.inr c_44)
      · refine zs_aload_n hΓ dX5_isTrod_47 (pc' := 48) rfl rfl rfl ?_
        refine zs_callVV hΓ dX5_isTrod_48 (pc' := 51) rfl kX5_423 (con_X5_tick l T'.k (by omega)) (tw_t hTw) rfl rfl rfl (Nat.le_of_ble_eq_true rfl) (by omega) (by decide) (by omega) (by omega) (fun h_48 q_48 k_48 => ?_) (fun _ _ q _ => False.elim q)
        obtain ⟨p1, p2⟩ := q_48
        have wt := p2.wt (by rw [h42]; exact iB_01 _)
        rw [e40, p1, hr] at wt
        have hst : sTicks b mu tx0 hs (n + 1) R2 = sTick b mu tx0 hs (sTicks b mu tx0 hs n R2) := rfl
        refine zs_iinc hΓ dX5_isTrod_51 (pc' := 54) rfl (L' := [some (zR _), some (zI _), some (zI _), some (zI _), some (zI _)]) rfl (by unfold inI; omega) (by decide) rfl rfl ?_
        refine zs_goto hΓ dX5_isTrod_54 (tgt := 34) (by decide) ?_
        have h9 := ih (n + 1) _ (by omega) (hS.tr (cW_5 p2.s)) ((p2.s.row fun _ => n0j (by decide) (by decide) (by decide)).trans h7) (by rw [p1, hr, hst]) (by
          rw [wt, h42, hst]
          have c9 := c_44
          rw [h42] at c9
          have c8 := iB_eq c9
          have s9 := sTicks_sn (b := b) (mu := mu) (hs := hs) hx ok2 hc 0 n (by omega)
          have s8 : sTicks b mu tx0 hs 0 R2 = R2 := rfl
          rw [s8] at s9
          apply iB_iff
          constructor
          · rintro (z | z)
            · exact absurd (iB_1 z) c8
            · omega
          · intro z
            exact Or.inr ⟨hc, by omega⟩)
        rw [show ((n + 1 : Nat) : Int) = (n : Int) + 1 by omega] at h9
        exact h9
  have mid : ∀ (h' : zH), Same cC5 h h' → gI h' (1, 7) = R → gI h' (1, 5) = R2 → SS Γ 26 [some (zR (some (1, 0))), some (zI a1), some (zI a2), some (zI ticks), none] [] h' 0 0 := by
    intro h' hS h7 hr
    have hTw := hTw.same hS
    refine zs_aload_n hΓ dX5_isTrod_26 (pc' := 27) rfl rfl rfl ?_
    refine zs_iconst hΓ dX5_isTrod_27 (pc' := 28) rfl ⟨by decide, by decide⟩ ?_
    refine zs_puti hΓ dX5_isTrod_28 (pc' := 31) rfl fX5_405 (fun q hq => (by cases hq; exact Or.inl rfl)) (i9 := 42) rfl (by show _ ∨ _; omega) (tw_t hTw) (show (0 : Int) ≤ 1 by decide) ?_
    refine zs_iconst hΓ dX5_isTrod_31 (pc' := 32) rfl ⟨by decide, by decide⟩ ?_
    refine zs_istore hΓ dX5_isTrod_32 (pc' := 34) rfl (L' := [some (zR _), some (zI _), some (zI _), some (zI _), some (zI _)]) (by decide) rfl rfl ?_
    exact lp ticks.toNat 0 _ (by omega) (hS.set (cC5_in (by decide))) (by rw [gI_ot _ _ _ (n1 (by decide))]; exact h7) (by rw [gI_ot _ _ _ (n1 (by decide))]; exact hr) (by rw [gI_setI, if_pos ⟨rfl, rfl⟩]; exact iB_f (by show ¬ cel R2 c 6 < cel R2 c 6; omega))
  refine zs_aload_n hΓ dX5_isTrod_0 (pc' := 1) rfl rfl rfl ?_
  refine zs_callVV hΓ dX5_isTrod_1 (pc' := 4) rfl kX5_445 (con_X5_layAside l hTw) (tw_t hTw) rfl rfl rfl (Nat.le_of_ble_eq_true rfl) (by omega) (by decide) (by omega) (by omega) (fun h_1 q_1 k_1 => ?_) (fun _ _ q _ => False.elim q)
  obtain ⟨p1, p2⟩ := q_1
  have hTw := hTw.same p1
  have s1 := c1_5 p1 (by decide)
  have r1 : gI h_1 (1, 5) = R := (p1.row fun _ => n1 (by decide)).trans hR
  rw [hR] at p2
  refine zs_iload_n hΓ dX5_isTrod_4 (pc' := 5) rfl rfl rfl ?_
  refine zs_iflt hΓ dX5_isTrod_5 (tgt := 15) (by decide) (pc' := 8) rfl (fun c_5 => ?_) (fun c_5 => ?_)
  · refine zs_iload_n hΓ dX5_isTrod_15 (pc' := 16) rfl rfl rfl ?_
    refine zs_iflt hΓ dX5_isTrod_16 (tgt := 26) (by decide) (pc' := 19) rfl (fun c_16 => ?_) (fun c_16 => ?_)
    · exact mid _ s1 p2 (by rw [← hR2, r1, sFence, sFence, if_neg (by omega), if_neg (by omega)])
    · refine zs_aload_n hΓ dX5_isTrod_19 (pc' := 20) rfl rfl rfl ?_
      refine zs_iload_n hΓ dX5_isTrod_20 (pc' := 21) rfl rfl rfl ?_
      refine zs_bipush hΓ dX5_isTrod_21 (pc' := 23) rfl ⟨by decide, by decide⟩ ?_
      refine zs_callVV hΓ dX5_isTrod_23 (pc' := 26) rfl kX5_435 (con_X5_put l hTw a2 6 (by omega) (by decide)) (tw_t hTw) rfl rfl rfl (Nat.le_of_ble_eq_true rfl) (by omega) (by decide) (by omega) (by omega) (fun h_23 q_23 k_23 => ?_) (fun _ _ q _ => False.elim q)
      obtain ⟨p5, p6⟩ := q_23
      exact mid _ (s1.tr (c1_5 p5 (by decide))) ((p5.row fun _ => n1 (by decide)).trans p2) (by rw [p6, r1, ← hR2, sFence, sFence, if_pos c_16, if_neg (by omega)])
  · refine zs_aload_n hΓ dX5_isTrod_8 (pc' := 9) rfl rfl rfl ?_
    refine zs_iload_n hΓ dX5_isTrod_9 (pc' := 10) rfl rfl rfl ?_
    refine zs_bipush hΓ dX5_isTrod_10 (pc' := 12) rfl ⟨by decide, by decide⟩ ?_
    refine zs_callVV hΓ dX5_isTrod_12 (pc' := 15) rfl kX5_435 (con_X5_put l hTw a1 6 (by omega) (by decide)) (tw_t hTw) rfl rfl rfl (Nat.le_of_ble_eq_true rfl) (by omega) (by decide) (by omega) (by omega) (fun h_12 q_12 k_12 => ?_) (fun _ _ q _ => False.elim q)
    obtain ⟨p3, p4⟩ := q_12
    have hTw := hTw.same p3
    have s2 := s1.tr (c1_5 p3 (by decide))
    have r2 : gI h_12 (1, 5) = sFence R a1 := by rw [p4, r1, sFence, if_pos c_5]
    have k2 : gI h_12 (1, 7) = R := (p3.row fun _ => n1 (by decide)).trans p2
    refine zs_iload_n hΓ dX5_isTrod_15 (pc' := 16) rfl rfl rfl ?_
    refine zs_iflt hΓ dX5_isTrod_16 (tgt := 26) (by decide) (pc' := 19) rfl (fun c_16 => ?_) (fun c_16 => ?_)
    · exact mid _ s2 k2 (by rw [r2, ← hR2]; show _ = sFence (sFence R a1) a2; conv => rhs; rw [sFence, if_neg (by omega)])
    · refine zs_aload_n hΓ dX5_isTrod_19 (pc' := 20) rfl rfl rfl ?_
      refine zs_iload_n hΓ dX5_isTrod_20 (pc' := 21) rfl rfl rfl ?_
      refine zs_bipush hΓ dX5_isTrod_21 (pc' := 23) rfl ⟨by decide, by decide⟩ ?_
      refine zs_callVV hΓ dX5_isTrod_23 (pc' := 26) rfl kX5_435 (con_X5_put l hTw a2 6 (by omega) (by decide)) (tw_t hTw) rfl rfl rfl (Nat.le_of_ble_eq_true rfl) (by omega) (by decide) (by omega) (by omega) (fun h_23 q_23 k_23 => ?_) (fun _ _ q _ => False.elim q)
      obtain ⟨p5, p6⟩ := q_23
      exact mid _ (s2.tr (c1_5 p5 (by decide))) ((p5.row fun _ => n1 (by decide)).trans k2) (by rw [p6, r2, ← hR2]; show _ = sFence (sFence R a1) a2; conv => rhs; rw [sFence, if_pos c_16])
