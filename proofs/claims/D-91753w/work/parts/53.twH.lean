/-! THE TWIN, H: which way a walker goes -/
set_option maxRecDepth 100000
theorem con_X5_crowd (l : Launch) {h : zH} (hTw : TwT h) (hk : 0 ≤ gI h (1, 5) 157 ∧ gI h (1, 5) 157 ≤ 60) (c : Int) : Con l mX5_crowd 1 0 0 [zR (some (1, 0)), zI c] h (rI fun x h' => x = sCrowd (gI h (1, 5)) c ∧ h' = h) zNo := by
  refine Con.ofS (by decide +kernel) (Nat.le_of_ble_eq_true rfl) fun Γ hΓ hno hwf hav => ?_
  have hΓ : Ctx Γ l cX5_crowd RX5 "crowd" 4 (Option.some Jvm.ClassFile.FieldType.int) _ _ 1 _ _ := hΓ
  show SS Γ 0 [some (zR _), some (zI _), none, none] [] _ 0 0
  have lp : ∀ (n9 : Nat) (i s : Int), (0 ≤ i ∧ i ≤ gI h (1, 5) 157) → (s = cntP (fun k => gI h (1, 5) (158 + 6 * k) = c) i.toNat) → (gI h (1, 5) 157 - i < n9) → SS Γ 4 [some (zR (some (1, 0))), some (zI c), some (zI s), some (zI i)] [] h 0 0 := by
    intro n9
    induction n9 with
    | zero => intro i s h1 h2 hm9; exact absurd hm9 (by omega)
    | succ n9 ih =>
      intro i s h1 h2 hm9
      have hs := cntP_r (fun k => gI h (1, 5) (158 + 6 * k) = c) i.toNat
      have hs' := cntP_s (fun k => gI h (1, 5) (158 + 6 * k) = c) h1.1
      refine zs_iload_n hΓ dX5_crowd_4 (pc' := 5) rfl rfl rfl ?_
      refine zs_aload_n hΓ dX5_crowd_5 (pc' := 6) rfl rfl rfl ?_
      refine zs_getrE hΓ dX5_crowd_6 (pc' := 9) rfl fX5_30 (i9 := 5) rfl rfl (tw_t hTw) (tw_p5 hTw) ?_
      refine zs_sipush hΓ dX5_crowd_9 (pc' := 12) rfl ⟨by decide, by decide⟩ ?_
      refine zs_iald hΓ dX5_crowd_12 (pc' := 13) rfl (tw_a5 hTw) (by omega) (by omega) ?_
      refine zs_icmpge hΓ dX5_crowd_13 (tgt := 47) (by decide) (pc' := 16) rfl (fun c_13 => ?_) (fun c_13 => ?_)
      · refine zs_iload_n hΓ dX5_crowd_47 (pc' := 48) rfl rfl rfl ?_
        exact zs_iret hΓ dX5_crowd_48 rfl (by omega) (by omega) (⟨_, rfl, (by rw [h2, show i = gI h (1, 5) 157 by omega]; rfl), rfl⟩)
      · refine zs_iload_n hΓ dX5_crowd_16 (pc' := 17) rfl rfl rfl ?_
        refine zs_aload_n hΓ dX5_crowd_17 (pc' := 18) rfl rfl rfl ?_
        refine zs_getrE hΓ dX5_crowd_18 (pc' := 21) rfl fX5_30 (i9 := 5) rfl rfl (tw_t hTw) (tw_p5 hTw) ?_
        refine zs_sipush hΓ dX5_crowd_21 (pc' := 24) rfl ⟨by decide, by decide⟩ ?_
        refine zs_bipush hΓ dX5_crowd_24 (pc' := 26) rfl ⟨by decide, by decide⟩ ?_
        refine zs_iload_n hΓ dX5_crowd_26 (pc' := 27) rfl rfl rfl ?_
        refine zs_imul hΓ dX5_crowd_27 (pc' := 28) rfl (by unfold inI; omega) ?_
        refine zs_iadd hΓ dX5_crowd_28 (pc' := 29) rfl (by unfold inI; omega) ?_
        refine zs_iald hΓ dX5_crowd_29 (pc' := 30) rfl (tw_a5 hTw) (by omega) (by omega) ?_
        refine zs_iload_n hΓ dX5_crowd_30 (pc' := 31) rfl rfl rfl ?_
        refine zs_icmpne hΓ dX5_crowd_31 (tgt := 38) (by decide) (pc' := 34) rfl (fun c_31 => ?_) (fun c_31 => ?_)
        · have c_31 := iB_f c_31
          refine zs_iconst hΓ dX5_crowd_38 (pc' := 39) rfl ⟨by decide, by decide⟩ ?_
          refine zs_iadd hΓ dX5_crowd_39 (pc' := 40) rfl (by unfold inI; omega) ?_
          refine zs_istore_n hΓ dX5_crowd_40 (pc' := 41) rfl (L' := [some (zR _), some (zI _), some (zI _), some (zI _)]) rfl (by decide) rfl rfl ?_
          refine zs_iinc hΓ dX5_crowd_41 (pc' := 44) rfl (L' := [some (zR _), some (zI _), some (zI _), some (zI _)]) rfl (by unfold inI; omega) (by decide) rfl rfl ?_
          refine zs_goto hΓ dX5_crowd_44 (tgt := 4) (by decide) ?_
          exact ih (i + 1) _ (by omega) (by omega) (by omega)
        · have c_31 := iB_t c_31
          refine zs_iconst hΓ dX5_crowd_34 (pc' := 35) rfl ⟨by decide, by decide⟩ ?_
          refine zs_goto hΓ dX5_crowd_35 (tgt := 39) (by decide) ?_
          refine zs_iadd hΓ dX5_crowd_39 (pc' := 40) rfl (by unfold inI; omega) ?_
          refine zs_istore_n hΓ dX5_crowd_40 (pc' := 41) rfl (L' := [some (zR _), some (zI _), some (zI _), some (zI _)]) rfl (by decide) rfl rfl ?_
          refine zs_iinc hΓ dX5_crowd_41 (pc' := 44) rfl (L' := [some (zR _), some (zI _), some (zI _), some (zI _)]) rfl (by unfold inI; omega) (by decide) rfl rfl ?_
          refine zs_goto hΓ dX5_crowd_44 (tgt := 4) (by decide) ?_
          exact ih (i + 1) _ (by omega) (by omega) (by omega)
  refine zs_iconst hΓ dX5_crowd_0 (pc' := 1) rfl ⟨by decide, by decide⟩ ?_
  refine zs_istore_n hΓ dX5_crowd_1 (pc' := 2) rfl (L' := [some (zR _), some (zI _), some (zI _), none]) rfl (by decide) rfl rfl ?_
  refine zs_iconst hΓ dX5_crowd_2 (pc' := 3) rfl ⟨by decide, by decide⟩ ?_
  refine zs_istore_n hΓ dX5_crowd_3 (pc' := 4) rfl (L' := [some (zR _), some (zI _), some (zI _), some (zI _)]) rfl (by decide) rfl rfl ?_
  exact lp 61 0 0 (by omega) rfl (by omega)
theorem con_X5_sees (l : Launch) {h : zH} {R : Int → Int} {b mu t here goal last came : Int} {tx : zTx} {crowd : Int → Int} (W : Wk h R b mu t here goal last came tx crowd) (c d : Int) (hc : 0 ≤ c ∧ c < R 0 * R 1) (hd : 0 ≤ d ∧ d < 8) : Con l mX5_sees 4 0 0 [zR (some (1, 0)), zI c, zI d] h (rI fun x h' => x = sSees R b d (sSight tx) c ∧ h' = h) zNo := by
  refine Con.ofS (by decide +kernel) (Nat.le_of_ble_eq_true rfl) fun Γ hΓ hno hwf hav => ?_
  have hΓ : Ctx Γ l cX5_sees RX5 "sees" 7 (Option.some Jvm.ClassFile.FieldType.int) _ _ 4 _ _ := hΓ
  show SS Γ 0 [some (zR _), some (zI _), some (zI _), none, none, none, none] [] _ 0 0
  have hTw := W.tw
  have r5 := W.r
  have b28 := W.b28
  have hcs := W.hw.c
  have hsi := sSight_r W.xr.wf
  have ht := W.ht
  have hm : 0 ≤ gI h (1, 9) t ∧ gI h (1, 9) t ≤ 16 := by have h1 := W.xr.1; have h2 := W.xr.2.1; omega
  have lp : ∀ (n9 : Nat) (f m n v : Int), ((0 ≤ m ∧ m ≤ 9) ∧ 0 ≤ n ∧ n + m ≤ 9) → (v = -1 ∨ 0 ≤ v ∧ v < R 0 * R 1) → (n + sSees R b d m.toNat v = sSees R b d (sSight tx) c) → (m < n9) → SS Γ 33 [some (zR (some (1, 0))), some (zI c), some (zI d), some (zI f), some (zI m), some (zI n), some (zI v)] [] h 0 0 := by
    intro n9
    induction n9 with
    | zero => intro f m n v h1 h2 h3 hm9; exact absurd hm9 (by omega)
    | succ n9 ih =>
      intro f m n v h1 h2 h3 hm9
      have e9 : 0 < m → sSees R b d m.toNat v = zIf (0 ≤ v ∧ sBears R v) (iB (sWorn R b v) + sSees R b d (m + -1).toNat (sBeside R v d)) 0 := fun z => by rw [show m.toNat = (m + -1).toNat + 1 by omega]; rfl
      refine zs_iload hΓ dX5_sees_33 (pc' := 35) rfl rfl ?_
      refine zs_ifle hΓ dX5_sees_35 (tgt := 86) (by decide) (pc' := 38) rfl (fun c_35 => ?_) (fun c_35 => ?_)
      · have e8 : m = 0 := by omega
        refine zs_iload hΓ dX5_sees_86 (pc' := 88) rfl rfl ?_
        exact zs_iret hΓ dX5_sees_88 rfl (by omega) (by omega) (⟨_, rfl, (by rw [← h3, e8]; show n = n + 0; omega), rfl⟩)
      · refine zs_iload hΓ dX5_sees_38 (pc' := 40) rfl rfl ?_
        refine zs_iflt hΓ dX5_sees_40 (tgt := 86) (by decide) (pc' := 43) rfl (fun c_40 => ?_) (fun c_40 => ?_)
        · refine zs_iload hΓ dX5_sees_86 (pc' := 88) rfl rfl ?_
          exact zs_iret hΓ dX5_sees_88 rfl (by omega) (by omega) (⟨_, rfl, (by rw [← h3, e9 (by omega), zIf_f (fun z => absurd z.1 (by omega))]; omega), rfl⟩)
        · refine zs_aload_n hΓ dX5_sees_43 (pc' := 44) rfl rfl rfl ?_
          refine zs_iload hΓ dX5_sees_44 (pc' := 46) rfl rfl ?_
          refine zs_callVIP hΓ dX5_sees_46 (pc' := 49) rfl kX5_158 (con_X5_bears l hTw v (by omega)) (tw_t hTw) rfl rfl rfl (Nat.le_of_ble_eq_true rfl) (by omega) (by decide) (by omega) (by omega) ?_ (fun _ _ q _ => False.elim q)
          rw [r5]
          refine zs_ifeq hΓ dX5_sees_49 (tgt := 86) (by decide) (pc' := 52) rfl (fun c_49 => ?_) (fun c_49 => ?_)
          · try have c_49 := iB_eq c_49
            refine zs_iload hΓ dX5_sees_86 (pc' := 88) rfl rfl ?_
            exact zs_iret hΓ dX5_sees_88 rfl (by omega) (by omega) (⟨_, rfl, (by rw [← h3, e9 (by omega), zIf_f (fun z => c_49 z.2)]; omega), rfl⟩)
          · try have c_49 := iB_ne c_49
            refine zs_iload hΓ dX5_sees_52 (pc' := 54) rfl rfl ?_
            refine zs_aload_n hΓ dX5_sees_54 (pc' := 55) rfl rfl rfl ?_
            refine zs_iload hΓ dX5_sees_55 (pc' := 57) rfl rfl ?_
            refine zs_callVIP hΓ dX5_sees_57 (pc' := 60) rfl kX5_140 (con_X5_isWorn l hTw v (by omega)) (tw_t hTw) rfl rfl rfl (Nat.le_of_ble_eq_true rfl) (by omega) (by decide) (by omega) (by omega) ?_ (fun _ _ q _ => False.elim q)
            rw [r5, b28]
            refine zs_ifeq hΓ dX5_sees_60 (tgt := 67) (by decide) (pc' := 63) rfl (fun c_60 => ?_) (fun c_60 => ?_)
            · try have c_60 := iB_eq c_60
              have c_60 := iB_f c_60
              refine zs_iconst hΓ dX5_sees_67 (pc' := 68) rfl ⟨by decide, by decide⟩ ?_
              refine zs_iadd hΓ dX5_sees_68 (pc' := 69) rfl (by unfold inI; omega) ?_
              refine zs_istore hΓ dX5_sees_69 (pc' := 71) rfl (L' := [some (zR _), some (zI _), some (zI _), some (zI _), some (zI _), some (zI _), some (zI _)]) (by decide) rfl rfl ?_
              refine zs_aload_n hΓ dX5_sees_71 (pc' := 72) rfl rfl rfl ?_
              refine zs_iload hΓ dX5_sees_72 (pc' := 74) rfl rfl ?_
              refine zs_iload_n hΓ dX5_sees_74 (pc' := 75) rfl rfl rfl ?_
              refine zs_callVIP hΓ dX5_sees_75 (pc' := 78) rfl kX5_380 (con_X5_beside l hTw (by rw [r5]; exact W.hw) v d (by rw [r5]; omega) hd) (tw_t hTw) rfl rfl rfl (Nat.le_of_ble_eq_true rfl) (by omega) (by decide) (by omega) (by omega) ?_ (fun _ _ q _ => False.elim q)
              rw [r5]
              refine zs_istore hΓ dX5_sees_78 (pc' := 80) rfl (L' := [some (zR _), some (zI _), some (zI _), some (zI _), some (zI _), some (zI _), some (zI _)]) (by decide) rfl rfl ?_
              refine zs_iinc hΓ dX5_sees_80 (pc' := 83) rfl (L' := [some (zR _), some (zI _), some (zI _), some (zI _), some (zI _), some (zI _), some (zI _)]) rfl (by unfold inI; omega) (by decide) rfl rfl ?_
              refine zs_goto hΓ dX5_sees_83 (tgt := 33) (by decide) ?_
              have e8 := e9 (by omega); rw [zIf_t ⟨by omega, c_49⟩] at e8; exact ih f _ _ _ (by omega) (sBeside_r W.hw) (by omega) (by omega)
            · try have c_60 := iB_ne c_60
              have c_60 := iB_t c_60
              refine zs_iconst hΓ dX5_sees_63 (pc' := 64) rfl ⟨by decide, by decide⟩ ?_
              refine zs_goto hΓ dX5_sees_64 (tgt := 68) (by decide) ?_
              refine zs_iadd hΓ dX5_sees_68 (pc' := 69) rfl (by unfold inI; omega) ?_
              refine zs_istore hΓ dX5_sees_69 (pc' := 71) rfl (L' := [some (zR _), some (zI _), some (zI _), some (zI _), some (zI _), some (zI _), some (zI _)]) (by decide) rfl rfl ?_
              refine zs_aload_n hΓ dX5_sees_71 (pc' := 72) rfl rfl rfl ?_
              refine zs_iload hΓ dX5_sees_72 (pc' := 74) rfl rfl ?_
              refine zs_iload_n hΓ dX5_sees_74 (pc' := 75) rfl rfl rfl ?_
              refine zs_callVIP hΓ dX5_sees_75 (pc' := 78) rfl kX5_380 (con_X5_beside l hTw (by rw [r5]; exact W.hw) v d (by rw [r5]; omega) hd) (tw_t hTw) rfl rfl rfl (Nat.le_of_ble_eq_true rfl) (by omega) (by decide) (by omega) (by omega) ?_ (fun _ _ q _ => False.elim q)
              rw [r5]
              refine zs_istore hΓ dX5_sees_78 (pc' := 80) rfl (L' := [some (zR _), some (zI _), some (zI _), some (zI _), some (zI _), some (zI _), some (zI _)]) (by decide) rfl rfl ?_
              refine zs_iinc hΓ dX5_sees_80 (pc' := 83) rfl (L' := [some (zR _), some (zI _), some (zI _), some (zI _), some (zI _), some (zI _), some (zI _)]) rfl (by unfold inI; omega) (by decide) rfl rfl ?_
              refine zs_goto hΓ dX5_sees_83 (tgt := 33) (by decide) ?_
              have e8 := e9 (by omega); rw [zIf_t ⟨by omega, c_49⟩] at e8; exact ih f _ _ _ (by omega) (sBeside_r W.hw) (by omega) (by omega)
  refine zs_aload_n hΓ dX5_sees_0 (pc' := 1) rfl rfl rfl ?_
  refine zs_aload_n hΓ dX5_sees_1 (pc' := 2) rfl rfl rfl ?_
  refine zs_geti hΓ dX5_sees_2 (pc' := 5) rfl fX5_378 (i9 := 36) rfl rfl (tw_t hTw) ?_
  refine zs_eqI W.e36 ?_
  refine zs_bipush hΓ dX5_sees_5 (pc' := 7) rfl ⟨by decide, by decide⟩ ?_
  refine zs_callVI hΓ dX5_sees_7 (pc' := 10) rfl kX5_227 (con_X5_find l hTw t 7 ht hm) (tw_t hTw) rfl rfl rfl (Nat.le_of_ble_eq_true rfl) (by omega) (by decide) (by omega) (by omega) (fun x_7 h_7 q_7 k_7 => ?_) (fun _ _ q _ => False.elim q)
  obtain ⟨q9, rfl⟩ := q_7
  have q9 := find_tx 3 W.xr q9
  refine zs_istore_n hΓ dX5_sees_10 (pc' := 11) rfl (L' := [some (zR _), some (zI _), some (zI _), some (zI _), none, none, none]) rfl (by decide) rfl rfl ?_
  refine zs_iload_n hΓ dX5_sees_11 (pc' := 12) rfl rfl rfl ?_
  refine zs_ifge hΓ dX5_sees_12 (tgt := 19) (by decide) (pc' := 15) rfl (fun c_12 => ?_) (fun c_12 => ?_)
  · refine zs_aload_n hΓ dX5_sees_19 (pc' := 20) rfl rfl rfl ?_
    refine zs_getrE hΓ dX5_sees_20 (pc' := 23) rfl fX5_53 (i9 := 12) rfl rfl (tw_t hTw) (tw_p12 hTw) ?_
    refine zs_iload_n hΓ dX5_sees_23 (pc' := 24) rfl rfl rfl ?_
    refine zs_iald hΓ dX5_sees_24 (pc' := 25) rfl (tw_a12 hTw) (by omega) (by omega) ?_
    refine zs_eqI (y := txTold 7 3 tx) (by rcases q9 with q | q; omega; exact q.2.1) ?_
    refine zs_istore hΓ dX5_sees_25 (pc' := 27) rfl (L' := [some (zR _), some (zI _), some (zI _), some (zI _), some (zI _), none, none]) (by decide) rfl rfl ?_
    refine zs_iconst hΓ dX5_sees_27 (pc' := 28) rfl ⟨by decide, by decide⟩ ?_
    refine zs_istore hΓ dX5_sees_28 (pc' := 30) rfl (L' := [some (zR _), some (zI _), some (zI _), some (zI _), some (zI _), some (zI _), none]) (by decide) rfl rfl ?_
    refine zs_iload_n hΓ dX5_sees_30 (pc' := 31) rfl rfl rfl ?_
    refine zs_istore hΓ dX5_sees_31 (pc' := 33) rfl (L' := [some (zR _), some (zI _), some (zI _), some (zI _), some (zI _), some (zI _), some (zI _)]) (by decide) rfl rfl ?_
    exact lp 10 _ _ 0 c (by omega) (by omega) (by rw [← hsi.1]; exact Int.zero_add _) (by omega)
  · refine zs_iconst hΓ dX5_sees_15 (pc' := 16) rfl ⟨by decide, by decide⟩ ?_
    refine zs_goto hΓ dX5_sees_16 (tgt := 25) (by decide) ?_
    refine zs_istore hΓ dX5_sees_25 (pc' := 27) rfl (L' := [some (zR _), some (zI _), some (zI _), some (zI _), some (zI _), none, none]) (by decide) rfl rfl ?_
    refine zs_iconst hΓ dX5_sees_27 (pc' := 28) rfl ⟨by decide, by decide⟩ ?_
    refine zs_istore hΓ dX5_sees_28 (pc' := 30) rfl (L' := [some (zR _), some (zI _), some (zI _), some (zI _), some (zI _), some (zI _), none]) (by decide) rfl rfl ?_
    refine zs_iload_n hΓ dX5_sees_30 (pc' := 31) rfl rfl rfl ?_
    refine zs_istore hΓ dX5_sees_31 (pc' := 33) rfl (L' := [some (zR _), some (zI _), some (zI _), some (zI _), some (zI _), some (zI _), some (zI _)]) (by decide) rfl rfl ?_
    exact lp 10 _ _ 0 c (by omega) (by omega) (by rw [show (3 : Int).toNat = sSight tx by omega]; exact Int.zero_add _) (by omega)
theorem con_X5_measured (l : Launch) {h : zH} {R : Int → Int} {b mu t here goal last came : Int} {tx : zTx} {crowd : Int → Int} (W : Wk h R b mu t here goal last came tx crowd) (c d w : Int) (hc : 0 ≤ c ∧ c < R 0 * R 1) (hd : 0 ≤ d ∧ d < 8) (hw : 0 ≤ w ∧ w ≤ 6) : Con l mX5_measured 5 0 0 [zR (some (1, 0)), zI c, zI d, zI w] h (rI fun x h' => x = sMeas R b (sSight tx) here last came crowd c d w ∧ h' = h) zNo := by
  refine Con.ofS (by decide +kernel) (Nat.le_of_ble_eq_true rfl) fun Γ hΓ hno hwf hav => ?_
  have hΓ : Ctx Γ l cX5_measured RX5 "measured" 4 (Option.some Jvm.ClassFile.FieldType.int) _ _ 5 _ _ := hΓ
  show SS Γ 0 [some (zR _), some (zI _), some (zI _), some (zI _)] [] _ 0 0
  have hTw := W.tw
  have r5 := W.r
  have b28 := W.b28
  have hcs := W.hw.c
  have hb := W.hb
  have q1 := W.cs c hc.1 hc.2
  have q2 := W.cs here W.hh.1 W.hh.2
  have hl := W.hl
  have hh := W.hh
  refine zs_iload_n hΓ dX5_measured_0 (pc' := 1) rfl rfl rfl ?_
  rcases (show w = 0 ∨ w = 1 ∨ w = 2 ∨ w = 3 ∨ w = 4 ∨ w = 5 ∨ (w < 0 ∨ 5 < w) from by omega) with e_1 | e_1 | e_1 | e_1 | e_1 | e_1 | e_1
  · refine zs_tabIn hΓ dX5_measured_1 (off := 39) (tgt := 40) (by omega) (by omega) (by rw [e_1]; rfl) (by decide) ?_
    refine zs_aload_n hΓ dX5_measured_40 (pc' := 41) rfl rfl rfl ?_
    refine zs_iload_n hΓ dX5_measured_41 (pc' := 42) rfl rfl rfl ?_
    refine zs_callVIP hΓ dX5_measured_42 (pc' := 45) rfl kX5_356 (con_X5_isGreen l hTw c (by omega)) (tw_t hTw) rfl rfl rfl (Nat.le_of_ble_eq_true rfl) (by omega) (by decide) (by omega) (by omega) ?_ (fun _ _ q _ => False.elim q)
    rw [r5]
    refine zs_ifeq hΓ dX5_measured_45 (tgt := 73) (by decide) (pc' := 48) rfl (fun c_45 => ?_) (fun c_45 => ?_)
    · try have c_45 := iB_eq c_45
      refine zs_iconst hΓ dX5_measured_73 (pc' := 74) rfl ⟨by decide, by decide⟩ ?_
      exact zs_iret hΓ dX5_measured_74 rfl (by omega) (by omega) (by rw [e_1]; exact ⟨_, rfl, (by show _ = zIf _ _ _; rw [zIf_f (fun z => c_45 z.1)]), rfl⟩)
    · try have c_45 := iB_ne c_45
      refine zs_aload_n hΓ dX5_measured_48 (pc' := 49) rfl rfl rfl ?_
      refine zs_iload_n hΓ dX5_measured_49 (pc' := 50) rfl rfl rfl ?_
      refine zs_callVIP hΓ dX5_measured_50 (pc' := 53) rfl kX5_140 (con_X5_isWorn l hTw c (by omega)) (tw_t hTw) rfl rfl rfl (Nat.le_of_ble_eq_true rfl) (by omega) (by decide) (by omega) (by omega) ?_ (fun _ _ q _ => False.elim q)
      rw [r5, b28]
      refine zs_ifne hΓ dX5_measured_53 (tgt := 73) (by decide) (pc' := 56) rfl (fun c_53 => ?_) (fun c_53 => ?_)
      · try have c_53 := iB_ne c_53
        refine zs_iconst hΓ dX5_measured_73 (pc' := 74) rfl ⟨by decide, by decide⟩ ?_
        exact zs_iret hΓ dX5_measured_74 rfl (by omega) (by omega) (by rw [e_1]; exact ⟨_, rfl, (by show _ = zIf _ _ _; rw [zIf_f (fun z => z.2 c_53)]), rfl⟩)
      · try have c_53 := iB_eq c_53
        refine zs_aload_n hΓ dX5_measured_56 (pc' := 57) rfl rfl rfl ?_
        refine zs_geti hΓ dX5_measured_57 (pc' := 60) rfl fX5_74 (i9 := 28) rfl rfl (tw_t hTw) ?_
        refine zs_eqI b28 ?_
        refine zs_aload_n hΓ dX5_measured_60 (pc' := 61) rfl rfl rfl ?_
        refine zs_iload_n hΓ dX5_measured_61 (pc' := 62) rfl rfl rfl ?_
        refine zs_iconst hΓ dX5_measured_62 (pc' := 63) rfl ⟨by decide, by decide⟩ ?_
        refine zs_callVIP hΓ dX5_measured_63 (pc' := 66) rfl kX5_136 (con_X5_of l hTw c 3 (by omega) (by decide)) (tw_t hTw) rfl rfl rfl (Nat.le_of_ble_eq_true rfl) (by omega) (by decide) (by omega) (by omega) ?_ (fun _ _ q _ => False.elim q)
        rw [r5]
        have c_53' : ¬ b ≤ cel R c 3 := c_53
        refine zs_isub hΓ dX5_measured_66 (pc' := 67) rfl (by unfold inI; omega) ?_
        refine zs_bipush hΓ dX5_measured_67 (pc' := 69) rfl ⟨by decide, by decide⟩ ?_
        refine zs_idiv hΓ dX5_measured_69 (pc' := 70) rfl (by omega) (by omega) ?_
        refine zs_goto hΓ dX5_measured_70 (tgt := 74) (by decide) ?_
        exact zs_iret hΓ dX5_measured_74 rfl (by omega) (by omega) (by rw [e_1]; exact ⟨_, rfl, (by show _ = zIf _ _ _; rw [zIf_t ⟨c_45, c_53⟩]), rfl⟩)
  · refine zs_tabIn hΓ dX5_measured_1 (off := 74) (tgt := 75) (by omega) (by omega) (by rw [e_1]; rfl) (by decide) ?_
    refine zs_aload_n hΓ dX5_measured_75 (pc' := 76) rfl rfl rfl ?_
    refine zs_iload_n hΓ dX5_measured_76 (pc' := 77) rfl rfl rfl ?_
    refine zs_iconst hΓ dX5_measured_77 (pc' := 78) rfl ⟨by decide, by decide⟩ ?_
    refine zs_callVIP hΓ dX5_measured_78 (pc' := 81) rfl kX5_136 (con_X5_of l hTw c 4 (by omega) (by decide)) (tw_t hTw) rfl rfl rfl (Nat.le_of_ble_eq_true rfl) (by omega) (by decide) (by omega) (by omega) ?_ (fun _ _ q _ => False.elim q)
    rw [r5]
    refine zs_bipush hΓ dX5_measured_81 (pc' := 83) rfl ⟨by decide, by decide⟩ ?_
    refine zs_idiv hΓ dX5_measured_83 (pc' := 84) rfl (by omega) (by omega) ?_
    exact zs_iret hΓ dX5_measured_84 rfl (by omega) (by omega) (by rw [e_1]; exact ⟨_, rfl, rfl, rfl⟩)
  · refine zs_tabIn hΓ dX5_measured_1 (off := 84) (tgt := 85) (by omega) (by omega) (by rw [e_1]; rfl) (by decide) ?_
    refine zs_aload_n hΓ dX5_measured_85 (pc' := 86) rfl rfl rfl ?_
    refine zs_iload_n hΓ dX5_measured_86 (pc' := 87) rfl rfl rfl ?_
    refine zs_iconst hΓ dX5_measured_87 (pc' := 88) rfl ⟨by decide, by decide⟩ ?_
    refine zs_callVIP hΓ dX5_measured_88 (pc' := 91) rfl kX5_136 (con_X5_of l hTw c 2 (by omega) (by decide)) (tw_t hTw) rfl rfl rfl (Nat.le_of_ble_eq_true rfl) (by omega) (by decide) (by omega) (by omega) ?_ (fun _ _ q _ => False.elim q)
    rw [r5]
    refine zs_aload_n hΓ dX5_measured_91 (pc' := 92) rfl rfl rfl ?_
    refine zs_aload_n hΓ dX5_measured_92 (pc' := 93) rfl rfl rfl ?_
    refine zs_geti hΓ dX5_measured_93 (pc' := 96) rfl fX5_359 (i9 := 34) rfl rfl (tw_t hTw) ?_
    refine zs_eqI W.e34 ?_
    refine zs_iconst hΓ dX5_measured_96 (pc' := 97) rfl ⟨by decide, by decide⟩ ?_
    refine zs_callVIP hΓ dX5_measured_97 (pc' := 100) rfl kX5_136 (con_X5_of l hTw here 2 (by omega) (by decide)) (tw_t hTw) rfl rfl rfl (Nat.le_of_ble_eq_true rfl) (by omega) (by decide) (by omega) (by omega) ?_ (fun _ _ q _ => False.elim q)
    rw [r5]
    refine zs_isub hΓ dX5_measured_100 (pc' := 101) rfl (by unfold inI; omega) ?_
    refine zs_callSIP hΓ dX5_measured_101 (pc' := 104) rfl kX5_353 (con_X5_plain l _ (by omega)) rfl rfl (Nat.le_of_ble_eq_true rfl) (by omega) (by decide) (by omega) (by omega) ?_ (fun _ _ q _ => False.elim q)
    exact zs_iret hΓ dX5_measured_104 rfl (by omega) (by omega) (by rw [e_1]; exact ⟨_, rfl, rfl, rfl⟩)
  · refine zs_tabIn hΓ dX5_measured_1 (off := 104) (tgt := 105) (by omega) (by omega) (by rw [e_1]; rfl) (by decide) ?_
    refine zs_aload_n hΓ dX5_measured_105 (pc' := 106) rfl rfl rfl ?_
    refine zs_geti hΓ dX5_measured_106 (pc' := 109) rfl fX5_362 (i9 := 39) rfl rfl (tw_t hTw) ?_
    refine zs_ifeq hΓ dX5_measured_109 (tgt := 116) (by decide) (pc' := 112) rfl (fun c_109 => ?_) (fun c_109 => ?_)
    · refine zs_aload_n hΓ dX5_measured_116 (pc' := 117) rfl rfl rfl ?_
      refine zs_iload_n hΓ dX5_measured_117 (pc' := 118) rfl rfl rfl ?_
      refine zs_callVIP hΓ dX5_measured_118 (pc' := 121) rfl kX5_366 (con_X5_crowd l hTw (by rw [r5]; exact W.km) c) (tw_t hTw) rfl rfl rfl (Nat.le_of_ble_eq_true rfl) (by omega) (by decide) (by omega) (by omega) ?_ (fun _ _ q _ => False.elim q)
      rw [r5]
      exact zs_iret hΓ dX5_measured_121 rfl (by omega) (by omega) (by rw [e_1]; exact ⟨_, rfl, (by show _ = crowd c; rcases W.al with z | z; omega; rw [z.2]), rfl⟩)
    · refine zs_iconst hΓ dX5_measured_112 (pc' := 113) rfl ⟨by decide, by decide⟩ ?_
      refine zs_goto hΓ dX5_measured_113 (tgt := 121) (by decide) ?_
      exact zs_iret hΓ dX5_measured_121 rfl (by omega) (by omega) (by rw [e_1]; exact ⟨_, rfl, (by show _ = crowd c; rcases W.al with z | z; rw [z.2]; omega), rfl⟩)
  · refine zs_tabIn hΓ dX5_measured_1 (off := 121) (tgt := 122) (by omega) (by omega) (by rw [e_1]; rfl) (by decide) ?_
    refine zs_aload_n hΓ dX5_measured_122 (pc' := 123) rfl rfl rfl ?_
    refine zs_geti hΓ dX5_measured_123 (pc' := 126) rfl fX5_369 (i9 := 37) rfl rfl (tw_t hTw) ?_
    refine zs_eqI W.e37 ?_
    refine zs_iflt hΓ dX5_measured_126 (tgt := 141) (by decide) (pc' := 129) rfl (fun c_126 => ?_) (fun c_126 => ?_)
    · refine zs_iconst hΓ dX5_measured_141 (pc' := 142) rfl ⟨by decide, by decide⟩ ?_
      exact zs_iret hΓ dX5_measured_142 rfl (by omega) (by omega) (by rw [e_1]; exact ⟨_, rfl, iB_f (by omega), rfl⟩)
    · refine zs_aload_n hΓ dX5_measured_129 (pc' := 130) rfl rfl rfl ?_
      refine zs_geti hΓ dX5_measured_130 (pc' := 133) rfl fX5_369 (i9 := 37) rfl rfl (tw_t hTw) ?_
      refine zs_eqI W.e37 ?_
      refine zs_iload_n hΓ dX5_measured_133 (pc' := 134) rfl rfl rfl ?_
      refine zs_icmpeq hΓ dX5_measured_134 (tgt := 141) (by decide) (pc' := 137) rfl (fun c_134 => ?_) (fun c_134 => ?_)
      · refine zs_iconst hΓ dX5_measured_141 (pc' := 142) rfl ⟨by decide, by decide⟩ ?_
        exact zs_iret hΓ dX5_measured_142 rfl (by omega) (by omega) (by rw [e_1]; exact ⟨_, rfl, iB_f (by omega), rfl⟩)
      · refine zs_iconst hΓ dX5_measured_137 (pc' := 138) rfl ⟨by decide, by decide⟩ ?_
        refine zs_goto hΓ dX5_measured_138 (tgt := 142) (by decide) ?_
        exact zs_iret hΓ dX5_measured_142 rfl (by omega) (by omega) (by rw [e_1]; exact ⟨_, rfl, iB_t (by omega), rfl⟩)
  · refine zs_tabIn hΓ dX5_measured_1 (off := 142) (tgt := 143) (by omega) (by omega) (by rw [e_1]; rfl) (by decide) ?_
    refine zs_iload_n hΓ dX5_measured_143 (pc' := 144) rfl rfl rfl ?_
    refine zs_aload_n hΓ dX5_measured_144 (pc' := 145) rfl rfl rfl ?_
    refine zs_geti hΓ dX5_measured_145 (pc' := 148) rfl fX5_372 (i9 := 38) rfl rfl (tw_t hTw) ?_
    refine zs_eqI W.e38 ?_
    refine zs_icmpne hΓ dX5_measured_148 (tgt := 155) (by decide) (pc' := 151) rfl (fun c_148 => ?_) (fun c_148 => ?_)
    · refine zs_iconst hΓ dX5_measured_155 (pc' := 156) rfl ⟨by decide, by decide⟩ ?_
      exact zs_iret hΓ dX5_measured_156 rfl (by omega) (by omega) (by rw [e_1]; exact ⟨_, rfl, iB_f (by omega), rfl⟩)
    · refine zs_iconst hΓ dX5_measured_151 (pc' := 152) rfl ⟨by decide, by decide⟩ ?_
      refine zs_goto hΓ dX5_measured_152 (tgt := 156) (by decide) ?_
      exact zs_iret hΓ dX5_measured_156 rfl (by omega) (by omega) (by rw [e_1]; exact ⟨_, rfl, iB_t (by omega), rfl⟩)
  · refine zs_tabOut hΓ dX5_measured_1 (tgt := 157) e_1 (by decide) ?_
    refine zs_aload_n hΓ dX5_measured_157 (pc' := 158) rfl rfl rfl ?_
    refine zs_iload_n hΓ dX5_measured_158 (pc' := 159) rfl rfl rfl ?_
    refine zs_iload_n hΓ dX5_measured_159 (pc' := 160) rfl rfl rfl ?_
    refine zs_callVIP hΓ dX5_measured_160 (pc' := 163) rfl kX5_375 (con_X5_sees l W c d hc hd) (tw_t hTw) rfl rfl rfl (Nat.le_of_ble_eq_true rfl) (by omega) (by decide) (by omega) (by omega) ?_ (fun _ _ q _ => False.elim q)
    exact zs_iret hΓ dX5_measured_163 rfl (by omega) (by omega) (by rw [show w = 6 by omega]; exact ⟨_, rfl, rfl, rfl⟩)
theorem con_X5_weight (l : Launch) {h : zH} {R : Int → Int} {b mu t here goal last came : Int} {tx : zTx} {crowd : Int → Int} (W : Wk h R b mu t here goal last came tx crowd) (c d : Int) (hc : 0 ≤ c ∧ c < R 0 * R 1) (hd : 0 ≤ d ∧ d < 8) : Con l mX5_weight 6 0 0 [zR (some (1, 0)), zI c, zI d] h (rI fun x h' => x = sWeight R b mu tx here goal last came crowd c d ∧ Same (fun a _ => a = (1, 33)) h h') zNo := by
  refine Con.ofS (by decide +kernel) (Nat.le_of_ble_eq_true rfl) fun Γ hΓ hno hwf hav => ?_
  have hΓ : Ctx Γ l cX5_weight RX5 "weight" 8 (Option.some Jvm.ClassFile.FieldType.int) _ _ 6 _ _ := hΓ
  show SS Γ 0 [some (zR _), some (zI _), some (zI _), none, none, none, none, none] [] _ 0 0
  have hTw := W.tw
  have r5 := W.r
  have ht := W.ht
  have hcs := W.hw.c
  have hsi := sSight_r W.xr.wf
  have hf := sFar_r W.hw hc W.hg
  have q1 := W.cs c hc.1 hc.2
  have q2 := W.cs here W.hh.1 W.hh.2
  have hb := W.hb
  have hcr := W.cr c
  have hme : ∀ w, 0 ≤ sMeas R b (sSight tx) here last came crowd c d w ∧ sMeas R b (sSight tx) here last came crowd c d w ≤ 99 := fun w => sMeas_r hsi.2 hb q1.2.1.1 q1.2.2 q1.1 q2.1 hcr
  have x1 := W.xr.1
  have x2 := W.xr.2.1
  have lp : ∀ (rem : zTx) (j : Nat) (v : Int) (h' : zH), Same (fun a _ => a = (1, 33)) h h' → (∀ (i : Nat) (q : zLn), rem[i]? = some q → tx[j + i]? = some q) → (j : Int) + rem.length = tx.length → (-(10000 * (j : Int)) ≤ v ∧ v ≤ 1000 + 10000 * (j : Int)) → v + txSum (sA R b mu c) (fun w => sMeas R b (sSight tx) here last came crowd c d w) rem = sWeight R b mu tx here goal last came crowd c d → ∀ z3 z4 : Int, SS Γ 59 [some (zR (some (1, 0))), some (zI c), some (zI d), some (zI z3), some (zI z4), some (zI v), some (zI (16 * t + j)), none] [] h' 0 0 := by
    intro rem
    induction rem with
    | nil =>
      intro j v h' hS hrem hj hv hrun z3 z4
      have W' := W.same hS
      have hTw := W'.tw
      rw [List.length_nil] at hj
      refine zs_iload hΓ dX5_weight_59 (pc' := 61) rfl rfl ?_
      refine zs_bipush hΓ dX5_weight_61 (pc' := 63) rfl ⟨by decide, by decide⟩ ?_
      refine zs_aload_n hΓ dX5_weight_63 (pc' := 64) rfl rfl rfl ?_
      refine zs_geti hΓ dX5_weight_64 (pc' := 67) rfl fX5_378 (i9 := 36) rfl rfl (tw_t hTw) ?_
      refine zs_eqI W'.e36 ?_
      refine zs_imul hΓ dX5_weight_67 (pc' := 68) rfl (by unfold inI; omega) ?_
      refine zs_aload_n hΓ dX5_weight_68 (pc' := 69) rfl rfl rfl ?_
      refine zs_getrE hΓ dX5_weight_69 (pc' := 72) rfl fX5_44 (i9 := 9) rfl rfl (tw_t hTw) (tw_p9 hTw) ?_
      refine zs_aload_n hΓ dX5_weight_72 (pc' := 73) rfl rfl rfl ?_
      refine zs_geti hΓ dX5_weight_73 (pc' := 76) rfl fX5_378 (i9 := 36) rfl rfl (tw_t hTw) ?_
      refine zs_eqI W'.e36 ?_
      refine zs_iald hΓ dX5_weight_76 (pc' := 77) rfl (tw_a9 hTw) (by omega) (by omega) ?_
      refine zs_eqI W'.xr.1 ?_
      refine zs_iadd hΓ dX5_weight_77 (pc' := 78) rfl (by unfold inI; omega) ?_
      refine zs_icmpge hΓ dX5_weight_78 (tgt := 159) (by decide) (pc' := 81) rfl (fun c_78 => ?_) (fun c_78 => False.elim (absurd c_78 (by omega)))
      refine zs_iload hΓ dX5_weight_159 (pc' := 161) rfl rfl ?_
      exact zs_iret hΓ dX5_weight_161 rfl (by omega) (by omega) (⟨_, rfl, (by rw [← hrun]; show v = v + 0; omega), hS⟩)
    | cons q rem ih =>
      intro j v h' hS hrem hj hv hrun z3 z4
      have W' := W.same hS
      have hTw := W'.tw
      have r5' := W'.r
      have b28' := W'.b28
      have b29' := W'.b29
      rw [List.length_cons] at hj
      have hL := W'.xr.2.2 j q (hrem 0 q rfl)
      have hwl := hL.2.2.2.2.2
      have ih9 : ∀ (v9 : Int) h'', Same (fun a _ => a = (1, 33)) h h'' → (-(10000 * (j : Int)) - 10000 ≤ v9 ∧ v9 ≤ 1000 + 10000 * (j : Int) + 10000) → v9 + txSum (sA R b mu c) (fun w => sMeas R b (sSight tx) here last came crowd c d w) rem = sWeight R b mu tx here goal last came crowd c d → SS Γ 59 [some (zR (some (1, 0))), some (zI c), some (zI d), some (zI z3), some (zI z4), some (zI v9), some (zI (16 * t + j + 1)), none] [] h'' 0 0 := fun v9 h'' a1 a2 a3 => by
        have := ih (j + 1) v9 h'' a1 (fun i s hi => by rw [show j + 1 + i = j + (i + 1) by omega]; exact hrem (i + 1) s hi) (by omega) (by omega) a3 z3 z4
        rw [show 16 * t + ((j + 1 : Nat) : Int) = 16 * t + j + 1 by omega] at this
        exact this
      have hu : txSum (sA R b mu c) (fun w => sMeas R b (sSight tx) here last came crowd c d w) (q :: rem) = zIf (q.1 = 5 ∧ cHolds (sA R b mu c) q.2.2.2) (if q.2.1 = 6 then -(q.2.2.1 * sMeas R b (sSight tx) here last came crowd c d q.2.1) else q.2.2.1 * sMeas R b (sSight tx) here last came crowd c d q.2.1) 0 + txSum (sA R b mu c) (fun w => sMeas R b (sSight tx) here last came crowd c d w) rem := rfl
      rw [hu] at hrun
      refine zs_iload hΓ dX5_weight_59 (pc' := 61) rfl rfl ?_
      refine zs_bipush hΓ dX5_weight_61 (pc' := 63) rfl ⟨by decide, by decide⟩ ?_
      refine zs_aload_n hΓ dX5_weight_63 (pc' := 64) rfl rfl rfl ?_
      refine zs_geti hΓ dX5_weight_64 (pc' := 67) rfl fX5_378 (i9 := 36) rfl rfl (tw_t hTw) ?_
      refine zs_eqI W'.e36 ?_
      refine zs_imul hΓ dX5_weight_67 (pc' := 68) rfl (by unfold inI; omega) ?_
      refine zs_aload_n hΓ dX5_weight_68 (pc' := 69) rfl rfl rfl ?_
      refine zs_getrE hΓ dX5_weight_69 (pc' := 72) rfl fX5_44 (i9 := 9) rfl rfl (tw_t hTw) (tw_p9 hTw) ?_
      refine zs_aload_n hΓ dX5_weight_72 (pc' := 73) rfl rfl rfl ?_
      refine zs_geti hΓ dX5_weight_73 (pc' := 76) rfl fX5_378 (i9 := 36) rfl rfl (tw_t hTw) ?_
      refine zs_eqI W'.e36 ?_
      refine zs_iald hΓ dX5_weight_76 (pc' := 77) rfl (tw_a9 hTw) (by omega) (by omega) ?_
      refine zs_eqI W'.xr.1 ?_
      refine zs_iadd hΓ dX5_weight_77 (pc' := 78) rfl (by unfold inI; omega) ?_
      refine zs_icmpge hΓ dX5_weight_78 (tgt := 159) (by decide) (pc' := 81) rfl (fun c_78 => False.elim (absurd c_78 (by omega))) (fun c_78 => ?_)
      refine zs_aload_n hΓ dX5_weight_81 (pc' := 82) rfl rfl rfl ?_
      refine zs_getrE hΓ dX5_weight_82 (pc' := 85) rfl fX5_47 (i9 := 10) rfl rfl (tw_t hTw) (tw_p10 hTw) ?_
      refine zs_iload hΓ dX5_weight_85 (pc' := 87) rfl rfl ?_
      refine zs_iald hΓ dX5_weight_87 (pc' := 88) rfl (tw_a10 hTw) (by omega) (by omega) ?_
      refine zs_eqI hL.1 ?_
      refine zs_iconst hΓ dX5_weight_88 (pc' := 89) rfl ⟨by decide, by decide⟩ ?_
      refine zs_icmpne hΓ dX5_weight_89 (tgt := 153) (by decide) (pc' := 92) rfl (fun c_89 => ?_) (fun c_89 => ?_)
      · refine zs_iinc hΓ dX5_weight_153 (pc' := 156) rfl (L' := [some (zR _), some (zI _), some (zI _), some (zI _), some (zI _), some (zI _), some (zI _), none]) rfl (by unfold inI; omega) (by decide) rfl rfl ?_
        refine zs_goto hΓ dX5_weight_156 (tgt := 59) (by decide) ?_
        exact ih9 v _ hS (by omega) (by rw [zIf_f (fun z => c_89 z.1)] at hrun; omega)
      · refine zs_aload_n hΓ dX5_weight_92 (pc' := 93) rfl rfl rfl ?_
        refine zs_iload hΓ dX5_weight_93 (pc' := 95) rfl rfl ?_
        refine zs_iload_n hΓ dX5_weight_95 (pc' := 96) rfl rfl rfl ?_
        refine zs_callVI hΓ dX5_weight_96 (pc' := 99) rfl kX5_337 (con_X5_holds l hTw t _ c j q ht (by omega) rfl hL (by omega)) (tw_t hTw) rfl rfl rfl (Nat.le_of_ble_eq_true rfl) (by omega) (by decide) (by omega) (by omega) (fun x_96 h_96 q_96 k_96 => ?_) (fun _ _ q _ => False.elim q)
        obtain ⟨rfl, q9⟩ := q_96
        rw [r5', b28', b29']
        have hS2 := hS.tr q9
        have W2 := W.same hS2
        have hTw := W2.tw
        have hL2 := W2.xr.2.2 j q (hrem 0 q rfl)
        refine zs_ifne hΓ dX5_weight_99 (tgt := 105) (by decide) (pc' := 102) rfl (fun c_99 => ?_) (fun c_99 => ?_)
        · try have c_99 := iB_ne c_99
          refine zs_aload_n hΓ dX5_weight_105 (pc' := 106) rfl rfl rfl ?_
          have c_99' : cHolds (sA R b mu c) q.2.2.2 := c_99
          rw [zIf_t ⟨c_89, c_99'⟩] at hrun
          have hmq := hme q.2.1
          have hmr := mulR (m := 99) (n := 99) (a := q.2.2.1) (b := sMeas R b (sSight tx) here last came crowd c d q.2.1) ⟨hwl.1.1, hwl.2.2.1 c_89⟩ hmq
          refine zs_getrE hΓ dX5_weight_106 (pc' := 109) rfl fX5_53 (i9 := 12) rfl rfl (tw_t hTw) (tw_p12 hTw) ?_
          refine zs_iload hΓ dX5_weight_109 (pc' := 111) rfl rfl ?_
          refine zs_iald hΓ dX5_weight_111 (pc' := 112) rfl (tw_a12 hTw) (by omega) (by omega) ?_
          refine zs_eqI hL2.2.2.1 ?_
          refine zs_aload_n hΓ dX5_weight_112 (pc' := 113) rfl rfl rfl ?_
          refine zs_iload_n hΓ dX5_weight_113 (pc' := 114) rfl rfl rfl ?_
          refine zs_iload_n hΓ dX5_weight_114 (pc' := 115) rfl rfl rfl ?_
          refine zs_aload_n hΓ dX5_weight_115 (pc' := 116) rfl rfl rfl ?_
          refine zs_getrE hΓ dX5_weight_116 (pc' := 119) rfl fX5_50 (i9 := 11) rfl rfl (tw_t hTw) (tw_p11 hTw) ?_
          refine zs_iload hΓ dX5_weight_119 (pc' := 121) rfl rfl ?_
          refine zs_iald hΓ dX5_weight_121 (pc' := 122) rfl (tw_a11 hTw) (by omega) (by omega) ?_
          refine zs_eqI hL2.2.1 ?_
          refine zs_callVIP hΓ dX5_weight_122 (pc' := 125) rfl kX5_392 (con_X5_measured l W2 c d q.2.1 hc hd hwl.2.1) (tw_t hTw) rfl rfl rfl (Nat.le_of_ble_eq_true rfl) (by omega) (by decide) (by omega) (by omega) ?_ (fun _ _ q _ => False.elim q)
          refine zs_imul hΓ dX5_weight_125 (pc' := 126) rfl (by unfold inI; omega) ?_
          refine zs_istore hΓ dX5_weight_126 (pc' := 128) rfl (L' := [some (zR _), some (zI _), some (zI _), some (zI _), some (zI _), some (zI _), some (zI _), some (zI _)]) (by decide) rfl rfl ?_
          refine zs_iload hΓ dX5_weight_128 (pc' := 130) rfl rfl ?_
          refine zs_aload_n hΓ dX5_weight_130 (pc' := 131) rfl rfl rfl ?_
          refine zs_getrE hΓ dX5_weight_131 (pc' := 134) rfl fX5_50 (i9 := 11) rfl rfl (tw_t hTw) (tw_p11 hTw) ?_
          refine zs_iload hΓ dX5_weight_134 (pc' := 136) rfl rfl ?_
          refine zs_iald hΓ dX5_weight_136 (pc' := 137) rfl (tw_a11 hTw) (by omega) (by omega) ?_
          refine zs_eqI hL2.2.1 ?_
          refine zs_bipush hΓ dX5_weight_137 (pc' := 139) rfl ⟨by decide, by decide⟩ ?_
          refine zs_icmpne hΓ dX5_weight_139 (tgt := 148) (by decide) (pc' := 142) rfl (fun c_139 => ?_) (fun c_139 => ?_)
          · refine zs_iload hΓ dX5_weight_148 (pc' := 150) rfl rfl ?_
            refine zs_iadd hΓ dX5_weight_150 (pc' := 151) rfl (by unfold inI; omega) ?_
            refine zs_istore hΓ dX5_weight_151 (pc' := 153) rfl (L' := [some (zR _), some (zI _), some (zI _), some (zI _), some (zI _), some (zI _), some (zI _), some (zI _)]) (by decide) rfl rfl ?_
            refine zs_iinc hΓ dX5_weight_153 (pc' := 156) rfl (L' := [some (zR _), some (zI _), some (zI _), some (zI _), some (zI _), some (zI _), some (zI _), some (zI _)]) rfl (by unfold inI; omega) (by decide) rfl rfl ?_
            refine zs_goto hΓ dX5_weight_156 (tgt := 59) (by decide) ?_
            refine zs_drop 7 (L' := [some (zR _), some (zI _), some (zI _), some (zI _), some (zI _), some (zI _), some (zI _), none]) rfl ?_
            exact ih9 _ _ hS2 (by omega) (by rw [if_neg c_139] at hrun; omega)
          · refine zs_iload hΓ dX5_weight_142 (pc' := 144) rfl rfl ?_
            refine zs_ineg hΓ dX5_weight_144 (pc' := 145) rfl (by unfold inI; omega) ?_
            refine zs_goto hΓ dX5_weight_145 (tgt := 150) (by decide) ?_
            refine zs_iadd hΓ dX5_weight_150 (pc' := 151) rfl (by unfold inI; omega) ?_
            refine zs_istore hΓ dX5_weight_151 (pc' := 153) rfl (L' := [some (zR _), some (zI _), some (zI _), some (zI _), some (zI _), some (zI _), some (zI _), some (zI _)]) (by decide) rfl rfl ?_
            refine zs_iinc hΓ dX5_weight_153 (pc' := 156) rfl (L' := [some (zR _), some (zI _), some (zI _), some (zI _), some (zI _), some (zI _), some (zI _), some (zI _)]) rfl (by unfold inI; omega) (by decide) rfl rfl ?_
            refine zs_goto hΓ dX5_weight_156 (tgt := 59) (by decide) ?_
            refine zs_drop 7 (L' := [some (zR _), some (zI _), some (zI _), some (zI _), some (zI _), some (zI _), some (zI _), none]) rfl ?_
            exact ih9 _ _ hS2 (by omega) (by rw [if_pos c_139] at hrun; omega)
        · try have c_99 := iB_eq c_99
          have c_99' : ¬ cHolds (sA R b mu c) q.2.2.2 := c_99
          refine zs_goto hΓ dX5_weight_102 (tgt := 153) (by decide) ?_
          refine zs_iinc hΓ dX5_weight_153 (pc' := 156) rfl (L' := [some (zR _), some (zI _), some (zI _), some (zI _), some (zI _), some (zI _), some (zI _), none]) rfl (by unfold inI; omega) (by decide) rfl rfl ?_
          refine zs_goto hΓ dX5_weight_156 (tgt := 59) (by decide) ?_
          exact ih9 v _ hS2 (by omega) (by rw [zIf_f (fun z => c_99' z.2)] at hrun; omega)
  have hg := W.hg
  have hx1 := W.hw.xy hc
  have hx2 := W.hw.xy hg
  have hx3 := W.hw.1
  have hx4 := W.hw.2
  have y1 : 0 ≤ sAbs (c % R 0 - goal % R 0) ∧ sAbs (c % R 0 - goal % R 0) ≤ 15 := by unfold sAbs; split <;> omega
  have y2 : 0 ≤ sAbs (c / R 0 - goal / R 0) ∧ sAbs (c / R 0 - goal / R 0) ≤ 15 := by unfold sAbs; split <;> omega
  refine zs_aload_n hΓ dX5_weight_0 (pc' := 1) rfl rfl rfl ?_
  refine zs_iload_n hΓ dX5_weight_1 (pc' := 2) rfl rfl rfl ?_
  refine zs_aload_n hΓ dX5_weight_2 (pc' := 3) rfl rfl rfl ?_
  refine zs_geti hΓ dX5_weight_3 (pc' := 6) rfl fX5_383 (i9 := 35) rfl rfl (tw_t hTw) ?_
  refine zs_eqI W.e35 ?_
  refine zs_callVIP hΓ dX5_weight_6 (pc' := 9) rfl kX5_386 (con_X5_across l hTw (by rw [r5]; exact W.hw) c goal (by rw [r5]; exact hc) (by rw [r5]; exact hg)) (tw_t hTw) rfl rfl rfl (Nat.le_of_ble_eq_true rfl) (by omega) (by decide) (by omega) (by omega) ?_ (fun _ _ q _ => False.elim q)
  rw [r5]
  refine zs_istore_n hΓ dX5_weight_9 (pc' := 10) rfl (L' := [some (zR _), some (zI _), some (zI _), some (zI _), none, none, none, none]) rfl (by decide) rfl rfl ?_
  refine zs_aload_n hΓ dX5_weight_10 (pc' := 11) rfl rfl rfl ?_
  refine zs_iload_n hΓ dX5_weight_11 (pc' := 12) rfl rfl rfl ?_
  refine zs_aload_n hΓ dX5_weight_12 (pc' := 13) rfl rfl rfl ?_
  refine zs_geti hΓ dX5_weight_13 (pc' := 16) rfl fX5_383 (i9 := 35) rfl rfl (tw_t hTw) ?_
  refine zs_eqI W.e35 ?_
  refine zs_callVIP hΓ dX5_weight_16 (pc' := 19) rfl kX5_389 (con_X5_along l hTw (by rw [r5]; exact W.hw) c goal (by rw [r5]; exact hc) (by rw [r5]; exact hg)) (tw_t hTw) rfl rfl rfl (Nat.le_of_ble_eq_true rfl) (by omega) (by decide) (by omega) (by omega) ?_ (fun _ _ q _ => False.elim q)
  rw [r5]
  refine zs_istore hΓ dX5_weight_19 (pc' := 21) rfl (L' := [some (zR _), some (zI _), some (zI _), some (zI _), some (zI _), none, none, none]) (by decide) rfl rfl ?_
  refine zs_iload_n hΓ dX5_weight_21 (pc' := 22) rfl rfl rfl ?_
  refine zs_iload hΓ dX5_weight_22 (pc' := 24) rfl rfl ?_
  refine zs_icmple hΓ dX5_weight_24 (tgt := 39) (by decide) (pc' := 27) rfl (fun c_24 => ?_) (fun c_24 => ?_)
  · refine zs_bipush hΓ dX5_weight_39 (pc' := 41) rfl ⟨by decide, by decide⟩ ?_
    refine zs_iload hΓ dX5_weight_41 (pc' := 43) rfl rfl ?_
    refine zs_imul hΓ dX5_weight_43 (pc' := 44) rfl (by unfold inI; omega) ?_
    refine zs_iconst hΓ dX5_weight_44 (pc' := 45) rfl ⟨by decide, by decide⟩ ?_
    refine zs_iload_n hΓ dX5_weight_45 (pc' := 46) rfl rfl rfl ?_
    refine zs_imul hΓ dX5_weight_46 (pc' := 47) rfl (by unfold inI; omega) ?_
    refine zs_iadd hΓ dX5_weight_47 (pc' := 48) rfl (by unfold inI; omega) ?_
    refine zs_istore hΓ dX5_weight_48 (pc' := 50) rfl (L' := [some (zR _), some (zI _), some (zI _), some (zI _), some (zI _), some (zI _), none, none]) (by decide) rfl rfl ?_
    refine zs_bipush hΓ dX5_weight_50 (pc' := 52) rfl ⟨by decide, by decide⟩ ?_
    refine zs_aload_n hΓ dX5_weight_52 (pc' := 53) rfl rfl rfl ?_
    refine zs_geti hΓ dX5_weight_53 (pc' := 56) rfl fX5_378 (i9 := 36) rfl rfl (tw_t hTw) ?_
    refine zs_eqI W.e36 ?_
    refine zs_imul hΓ dX5_weight_56 (pc' := 57) rfl (by unfold inI; omega) ?_
    refine zs_istore hΓ dX5_weight_57 (pc' := 59) rfl (L' := [some (zR _), some (zI _), some (zI _), some (zI _), some (zI _), some (zI _), some (zI _), none]) (by decide) rfl rfl ?_
    have h9 := lp tx 0 (10 * sAbs (c / R 0 - goal / R 0) + 4 * sAbs (c % R 0 - goal % R 0)) h (Same.rf _ _) (fun i q hi => by rw [Nat.zero_add]; exact hi) (by omega) (by omega) (by show _ = sFar R c goal + _; unfold sFar; dsimp only; rw [if_neg (by omega)]) (sAbs (c % R 0 - goal % R 0)) (sAbs (c / R 0 - goal / R 0))
    rw [show 16 * t + ((0 : Nat) : Int) = 16 * t by omega] at h9
    exact h9
  · refine zs_bipush hΓ dX5_weight_27 (pc' := 29) rfl ⟨by decide, by decide⟩ ?_
    refine zs_iload_n hΓ dX5_weight_29 (pc' := 30) rfl rfl rfl ?_
    refine zs_imul hΓ dX5_weight_30 (pc' := 31) rfl (by unfold inI; omega) ?_
    refine zs_iconst hΓ dX5_weight_31 (pc' := 32) rfl ⟨by decide, by decide⟩ ?_
    refine zs_iload hΓ dX5_weight_32 (pc' := 34) rfl rfl ?_
    refine zs_imul hΓ dX5_weight_34 (pc' := 35) rfl (by unfold inI; omega) ?_
    refine zs_iadd hΓ dX5_weight_35 (pc' := 36) rfl (by unfold inI; omega) ?_
    refine zs_goto hΓ dX5_weight_36 (tgt := 48) (by decide) ?_
    refine zs_istore hΓ dX5_weight_48 (pc' := 50) rfl (L' := [some (zR _), some (zI _), some (zI _), some (zI _), some (zI _), some (zI _), none, none]) (by decide) rfl rfl ?_
    refine zs_bipush hΓ dX5_weight_50 (pc' := 52) rfl ⟨by decide, by decide⟩ ?_
    refine zs_aload_n hΓ dX5_weight_52 (pc' := 53) rfl rfl rfl ?_
    refine zs_geti hΓ dX5_weight_53 (pc' := 56) rfl fX5_378 (i9 := 36) rfl rfl (tw_t hTw) ?_
    refine zs_eqI W.e36 ?_
    refine zs_imul hΓ dX5_weight_56 (pc' := 57) rfl (by unfold inI; omega) ?_
    refine zs_istore hΓ dX5_weight_57 (pc' := 59) rfl (L' := [some (zR _), some (zI _), some (zI _), some (zI _), some (zI _), some (zI _), some (zI _), none]) (by decide) rfl rfl ?_
    have h9 := lp tx 0 (10 * sAbs (c % R 0 - goal % R 0) + 4 * sAbs (c / R 0 - goal / R 0)) h (Same.rf _ _) (fun i q hi => by rw [Nat.zero_add]; exact hi) (by omega) (by omega) (by show _ = sFar R c goal + _; unfold sFar; dsimp only; rw [if_pos (by omega)]) (sAbs (c % R 0 - goal % R 0)) (sAbs (c / R 0 - goal / R 0))
    rw [show 16 * t + ((0 : Nat) : Int) = 16 * t by omega] at h9
    exact h9
theorem con_X5_choose (l : Launch) {h : zH} {R : Int → Int} {b mu t here goal last came : Int} {tx : zTx} {crowd : Int → Int} (W : Wk h R b mu t here goal last came tx crowd) : Con l mX5_choose 7 0 0 [zR (some (1, 0))] h (rI fun x h' => x = sChoose R b mu tx here goal last came crowd ∧ Same (fun a _ => a = (1, 33)) h h') zNo := by
  refine Con.ofS (by decide +kernel) (Nat.le_of_ble_eq_true rfl) fun Γ hΓ hno hwf hav => ?_
  have hΓ : Ctx Γ l cX5_choose RX5 "choose" 6 (Option.some Jvm.ClassFile.FieldType.int) _ _ 7 _ _ := hΓ
  show SS Γ 0 [some (zR _), none, none, none, none, none] [] _ 0 0
  have hTw := W.tw
  have r5 := W.r
  have hcs := W.hw.c
  have hh := W.hh
  have hg := W.hg
  have hw9 := W.hw
  generalize hok : (fun d : Int => 0 ≤ sBeside R here d ∧ sBears R (sBeside R here d) ∧ ¬ txNever (sA R b mu (sBeside R here d)) tx) = ok
  generalize hwt : (fun d : Int => sWeight R b mu tx here goal last came crowd (sBeside R here d) d) = wt
  have hT : sChoose R b mu tx here goal last came crowd = if 0 ≤ sGoalD (sBeside R here) goal 8 0 then sGoalD (sBeside R here) goal 8 0 else (sBest ok wt 8).1 := by rw [← hok, ← hwt]; rfl
  have lp2 : ¬ 0 ≤ sGoalD (sBeside R here) goal 8 0 → ∀ (n : Nat) (i : Int) (h' : zH), i + n = 8 → 0 ≤ i → Same (fun a _ => a = (1, 33)) h h' → SS Γ 70 [some (zR (some (1, 0))), some (zI (sBest ok wt i.toNat).1), some (zI (sBest ok wt i.toNat).2), some (zI i), none, none] [] h' 0 0 := by
    intro hno9 n
    induction n with
    | zero =>
      intro i h' hi hi0 hS
      have hTw := hTw.same hS
      refine zs_iload_n hΓ dX5_choose_70 (pc' := 71) rfl rfl rfl ?_
      refine zs_bipush hΓ dX5_choose_71 (pc' := 73) rfl ⟨by decide, by decide⟩ ?_
      refine zs_icmpge hΓ dX5_choose_73 (tgt := 146) (by decide) (pc' := 76) rfl (fun c_73 => ?_) (fun c_73 => False.elim (absurd c_73 (by omega)))
      refine zs_iload_n hΓ dX5_choose_146 (pc' := 147) rfl rfl rfl ?_
      exact zs_iret hΓ dX5_choose_147 rfl (by omega) (by omega) (⟨_, rfl, (by rw [hT, if_neg hno9, show i.toNat = 8 by omega]), hS⟩)
    | succ n ih =>
      intro i h' hi hi0 hS
      have W' := W.same hS
      have hTw := hTw.same hS
      have hb9 := sBeside_r (c := here) (d := i) hw9
      have r5' := W'.r
      have hs9 : sBest ok wt (i + 1).toNat = zIf (ok i ∧ ¬ (0 ≤ (sBest ok wt i.toNat).1 ∧ (sBest ok wt i.toNat).2 ≤ wt i)) (i, wt i) (sBest ok wt i.toNat) := by obtain ⟨m, rfl⟩ := Int.eq_ofNat_of_zero_le hi0; rfl
      have hok9 : ok i ↔ 0 ≤ sBeside R here i ∧ sBears R (sBeside R here i) ∧ ¬ txNever (sA R b mu (sBeside R here i)) tx := by rw [← hok]
      have hwt9 : wt i = sWeight R b mu tx here goal last came crowd (sBeside R here i) i := by rw [← hwt]
      have ih0 : ∀ h', Same (fun a _ => a = (1, 33)) h h' → ¬ ok i → SS Γ 70 [some (zR (some (1, 0))), some (zI (sBest ok wt i.toNat).1), some (zI (sBest ok wt i.toNat).2), some (zI (i + 1)), none, none] [] h' 0 0 := fun h' a1 a2 => by
        have := ih (i + 1) h' (by omega) (by omega) a1
        rw [hs9, zIf_f (fun z => a2 z.1)] at this
        exact this
      refine zs_iload_n hΓ dX5_choose_70 (pc' := 71) rfl rfl rfl ?_
      refine zs_bipush hΓ dX5_choose_71 (pc' := 73) rfl ⟨by decide, by decide⟩ ?_
      refine zs_icmpge hΓ dX5_choose_73 (tgt := 146) (by decide) (pc' := 76) rfl (fun c_73 => False.elim (absurd c_73 (by omega))) (fun c_73 => ?_)
      refine zs_aload_n hΓ dX5_choose_76 (pc' := 77) rfl rfl rfl ?_
      refine zs_aload_n hΓ dX5_choose_77 (pc' := 78) rfl rfl rfl ?_
      refine zs_geti hΓ dX5_choose_78 (pc' := 81) rfl fX5_359 (i9 := 34) rfl rfl (tw_t hTw) ?_
      refine zs_eqI W'.e34 ?_
      refine zs_iload_n hΓ dX5_choose_81 (pc' := 82) rfl rfl rfl ?_
      refine zs_callVIP hΓ dX5_choose_82 (pc' := 85) rfl kX5_380 (con_X5_beside l hTw (by rw [r5']; exact hw9) here i (by rw [r5']; exact hh) (by omega)) (tw_t hTw) rfl rfl rfl (Nat.le_of_ble_eq_true rfl) (by omega) (by decide) (by omega) (by omega) ?_ (fun _ _ q _ => False.elim q)
      rw [r5']
      refine zs_istore hΓ dX5_choose_85 (pc' := 87) rfl (L' := [some (zR _), some (zI _), some (zI _), some (zI _), some (zI _), none]) (by decide) rfl rfl ?_
      refine zs_iload hΓ dX5_choose_87 (pc' := 89) rfl rfl ?_
      refine zs_iflt hΓ dX5_choose_89 (tgt := 140) (by decide) (pc' := 92) rfl (fun c_89 => ?_) (fun c_89 => ?_)
      · refine zs_iinc hΓ dX5_choose_140 (pc' := 143) rfl (L' := [some (zR _), some (zI _), some (zI _), some (zI _), some (zI _), none]) rfl (by unfold inI; omega) (by decide) rfl rfl ?_
        refine zs_goto hΓ dX5_choose_143 (tgt := 70) (by decide) ?_
        refine zs_drop 4 (L' := [some (zR _), some (zI _), some (zI _), some (zI _), none, none]) rfl ?_
        exact ih0 _ hS (fun z => by have := (hok9.mp z).1; omega)
      · refine zs_aload_n hΓ dX5_choose_92 (pc' := 93) rfl rfl rfl ?_
        refine zs_iload hΓ dX5_choose_93 (pc' := 95) rfl rfl ?_
        refine zs_callVIP hΓ dX5_choose_95 (pc' := 98) rfl kX5_158 (con_X5_bears l hTw _ (by omega)) (tw_t hTw) rfl rfl rfl (Nat.le_of_ble_eq_true rfl) (by omega) (by decide) (by omega) (by omega) ?_ (fun _ _ q _ => False.elim q)
        rw [r5']
        refine zs_ifeq hΓ dX5_choose_98 (tgt := 140) (by decide) (pc' := 101) rfl (fun c_98 => ?_) (fun c_98 => ?_)
        · try have c_98 := iB_eq c_98
          refine zs_iinc hΓ dX5_choose_140 (pc' := 143) rfl (L' := [some (zR _), some (zI _), some (zI _), some (zI _), some (zI _), none]) rfl (by unfold inI; omega) (by decide) rfl rfl ?_
          refine zs_goto hΓ dX5_choose_143 (tgt := 70) (by decide) ?_
          refine zs_drop 4 (L' := [some (zR _), some (zI _), some (zI _), some (zI _), none, none]) rfl ?_
          exact ih0 _ hS (fun z => c_98 (hok9.mp z).2.1)
        · try have c_98 := iB_ne c_98
          refine zs_aload_n hΓ dX5_choose_101 (pc' := 102) rfl rfl rfl ?_
          refine zs_iload hΓ dX5_choose_102 (pc' := 104) rfl rfl ?_
          refine zs_callVI hΓ dX5_choose_104 (pc' := 107) rfl kX5_396 (con_X5_mayNot l hTw t _ W'.ht W'.e36 tx W'.xr (by omega)) (tw_t hTw) rfl rfl rfl (Nat.le_of_ble_eq_true rfl) (by omega) (by decide) (by omega) (by omega) (fun x_104 h_104 q_104 k_104 => ?_) (fun _ _ q _ => False.elim q)
          obtain ⟨rfl, q9⟩ := q_104
          rw [r5', W'.b28, W'.b29]
          have hS2 := hS.tr q9
          have W2 := W.same hS2
          have hTw := W2.tw
          refine zs_ifeq hΓ dX5_choose_107 (tgt := 113) (by decide) (pc' := 110) rfl (fun c_107 => ?_) (fun c_107 => ?_)
          · try have c_107 := iB_eq c_107
            refine zs_aload_n hΓ dX5_choose_113 (pc' := 114) rfl rfl rfl ?_
            refine zs_iload hΓ dX5_choose_114 (pc' := 116) rfl rfl ?_
            refine zs_iload_n hΓ dX5_choose_116 (pc' := 117) rfl rfl rfl ?_
            refine zs_callVI hΓ dX5_choose_117 (pc' := 120) rfl kX5_399 (con_X5_weight l W2 _ i (by omega) (by omega)) (tw_t hTw) rfl rfl rfl (Nat.le_of_ble_eq_true rfl) (by omega) (by decide) (by omega) (by omega) (fun x_117 h_117 q_117 k_117 => ?_) (fun _ _ q _ => False.elim q)
            obtain ⟨rfl, q8⟩ := q_117
            rw [← hwt9]
            have hS3 := hS2.tr q8
            have hTw := hTw.same q8
            have hok8 := hok9.mpr ⟨by omega, c_98, c_107⟩
            refine zs_istore hΓ dX5_choose_120 (pc' := 122) rfl (L' := [some (zR _), some (zI _), some (zI _), some (zI _), some (zI _), some (zI _)]) (by decide) rfl rfl ?_
            refine zs_iload_n hΓ dX5_choose_122 (pc' := 123) rfl rfl rfl ?_
            refine zs_iflt hΓ dX5_choose_123 (tgt := 135) (by decide) (pc' := 126) rfl (fun c_123 => ?_) (fun c_123 => ?_)
            · refine zs_iload hΓ dX5_choose_135 (pc' := 137) rfl rfl ?_
              refine zs_istore_n hΓ dX5_choose_137 (pc' := 138) rfl (L' := [some (zR _), some (zI _), some (zI _), some (zI _), some (zI _), some (zI _)]) rfl (by decide) rfl rfl ?_
              refine zs_iload_n hΓ dX5_choose_138 (pc' := 139) rfl rfl rfl ?_
              refine zs_istore_n hΓ dX5_choose_139 (pc' := 140) rfl (L' := [some (zR _), some (zI _), some (zI _), some (zI _), some (zI _), some (zI _)]) rfl (by decide) rfl rfl ?_
              refine zs_iinc hΓ dX5_choose_140 (pc' := 143) rfl (L' := [some (zR _), some (zI _), some (zI _), some (zI _), some (zI _), some (zI _)]) rfl (by unfold inI; omega) (by decide) rfl rfl ?_
              refine zs_goto hΓ dX5_choose_143 (tgt := 70) (by decide) ?_
              refine zs_drop 4 (L' := [some (zR _), some (zI _), some (zI _), some (zI _), none, some (zI _)]) rfl ?_
              refine zs_drop 5 (L' := [some (zR _), some (zI _), some (zI _), some (zI _), none, none]) rfl ?_
              have h8 := ih (i + 1) _ (by omega) (by omega) hS3
              rw [hs9, zIf_t ⟨hok8, fun z => by omega⟩] at h8
              exact h8
            · refine zs_iload hΓ dX5_choose_126 (pc' := 128) rfl rfl ?_
              refine zs_iload_n hΓ dX5_choose_128 (pc' := 129) rfl rfl rfl ?_
              refine zs_icmplt hΓ dX5_choose_129 (tgt := 135) (by decide) (pc' := 132) rfl (fun c_129 => ?_) (fun c_129 => ?_)
              · refine zs_iload hΓ dX5_choose_135 (pc' := 137) rfl rfl ?_
                refine zs_istore_n hΓ dX5_choose_137 (pc' := 138) rfl (L' := [some (zR _), some (zI _), some (zI _), some (zI _), some (zI _), some (zI _)]) rfl (by decide) rfl rfl ?_
                refine zs_iload_n hΓ dX5_choose_138 (pc' := 139) rfl rfl rfl ?_
                refine zs_istore_n hΓ dX5_choose_139 (pc' := 140) rfl (L' := [some (zR _), some (zI _), some (zI _), some (zI _), some (zI _), some (zI _)]) rfl (by decide) rfl rfl ?_
                refine zs_iinc hΓ dX5_choose_140 (pc' := 143) rfl (L' := [some (zR _), some (zI _), some (zI _), some (zI _), some (zI _), some (zI _)]) rfl (by unfold inI; omega) (by decide) rfl rfl ?_
                refine zs_goto hΓ dX5_choose_143 (tgt := 70) (by decide) ?_
                refine zs_drop 4 (L' := [some (zR _), some (zI _), some (zI _), some (zI _), none, some (zI _)]) rfl ?_
                refine zs_drop 5 (L' := [some (zR _), some (zI _), some (zI _), some (zI _), none, none]) rfl ?_
                have h8 := ih (i + 1) _ (by omega) (by omega) hS3
                rw [hs9, zIf_t ⟨hok8, fun z => by omega⟩] at h8
                exact h8
              · refine zs_goto hΓ dX5_choose_132 (tgt := 140) (by decide) ?_
                refine zs_iinc hΓ dX5_choose_140 (pc' := 143) rfl (L' := [some (zR _), some (zI _), some (zI _), some (zI _), some (zI _), some (zI _)]) rfl (by unfold inI; omega) (by decide) rfl rfl ?_
                refine zs_goto hΓ dX5_choose_143 (tgt := 70) (by decide) ?_
                refine zs_drop 4 (L' := [some (zR _), some (zI _), some (zI _), some (zI _), none, some (zI _)]) rfl ?_
                refine zs_drop 5 (L' := [some (zR _), some (zI _), some (zI _), some (zI _), none, none]) rfl ?_
                have h8 := ih (i + 1) _ (by omega) (by omega) hS3
                rw [hs9, zIf_f (fun z => z.2 ⟨by omega, by omega⟩)] at h8
                exact h8
          · try have c_107 := iB_ne c_107
            refine zs_goto hΓ dX5_choose_110 (tgt := 140) (by decide) ?_
            refine zs_iinc hΓ dX5_choose_140 (pc' := 143) rfl (L' := [some (zR _), some (zI _), some (zI _), some (zI _), some (zI _), none]) rfl (by unfold inI; omega) (by decide) rfl rfl ?_
            refine zs_goto hΓ dX5_choose_143 (tgt := 70) (by decide) ?_
            refine zs_drop 4 (L' := [some (zR _), some (zI _), some (zI _), some (zI _), none, none]) rfl ?_
            exact ih0 _ hS2 (fun z => (hok9.mp z).2.2 c_107)
  have hend : ¬ 0 ≤ sGoalD (sBeside R here) goal 8 0 → SS Γ 70 [some (zR (some (1, 0))), some (zI (-1)), some (zI 0), some (zI 0), none, none] [] h 0 0 := fun z => lp2 z 8 0 h (by omega) (by omega) (Same.rf _ _)
  have hfar : ¬ (sAbs (here % R 0 - goal % R 0) < 2 ∧ sAbs (here / R 0 - goal / R 0) < 2) → ¬ 0 ≤ sGoalD (sBeside R here) goal 8 0 := fun z => by
    rw [sGoalD_no 8 0 (fun e he => z (by rw [← he]; exact beside_near hw9 (by omega)))]
    decide
  have lp1 : ∀ (n : Nat) (i : Int), i + n = 8 → 0 ≤ i → sGoalD (sBeside R here) goal 8 0 = sGoalD (sBeside R here) goal n i → SS Γ 34 [some (zR (some (1, 0))), some (zI i), none, none, none, none] [] h 0 0 := by
    intro n
    induction n with
    | zero =>
      intro i hi hi0 hG
      refine zs_iload_n hΓ dX5_choose_34 (pc' := 35) rfl rfl rfl ?_
      refine zs_bipush hΓ dX5_choose_35 (pc' := 37) rfl ⟨by decide, by decide⟩ ?_
      refine zs_icmpge hΓ dX5_choose_37 (tgt := 64) (by decide) (pc' := 40) rfl (fun c_37 => ?_) (fun c_37 => False.elim (absurd c_37 (by omega)))
      refine zs_iconst hΓ dX5_choose_64 (pc' := 65) rfl ⟨by decide, by decide⟩ ?_
      refine zs_istore_n hΓ dX5_choose_65 (pc' := 66) rfl (L' := [some (zR _), some (zI _), none, none, none, none]) rfl (by decide) rfl rfl ?_
      refine zs_iconst hΓ dX5_choose_66 (pc' := 67) rfl ⟨by decide, by decide⟩ ?_
      refine zs_istore_n hΓ dX5_choose_67 (pc' := 68) rfl (L' := [some (zR _), some (zI _), some (zI _), none, none, none]) rfl (by decide) rfl rfl ?_
      refine zs_iconst hΓ dX5_choose_68 (pc' := 69) rfl ⟨by decide, by decide⟩ ?_
      refine zs_istore_n hΓ dX5_choose_69 (pc' := 70) rfl (L' := [some (zR _), some (zI _), some (zI _), some (zI _), none, none]) rfl (by decide) rfl rfl ?_
      exact hend (by rw [hG]; show ¬ (0 : Int) ≤ -1; decide)
    | succ n ih =>
      intro i hi hi0 hG
      refine zs_iload_n hΓ dX5_choose_34 (pc' := 35) rfl rfl rfl ?_
      refine zs_bipush hΓ dX5_choose_35 (pc' := 37) rfl ⟨by decide, by decide⟩ ?_
      refine zs_icmpge hΓ dX5_choose_37 (tgt := 64) (by decide) (pc' := 40) rfl (fun c_37 => False.elim (absurd c_37 (by omega))) (fun c_37 => ?_)
      refine zs_aload_n hΓ dX5_choose_40 (pc' := 41) rfl rfl rfl ?_
      refine zs_aload_n hΓ dX5_choose_41 (pc' := 42) rfl rfl rfl ?_
      refine zs_geti hΓ dX5_choose_42 (pc' := 45) rfl fX5_359 (i9 := 34) rfl rfl (tw_t hTw) ?_
      refine zs_eqI W.e34 ?_
      refine zs_iload_n hΓ dX5_choose_45 (pc' := 46) rfl rfl rfl ?_
      refine zs_callVIP hΓ dX5_choose_46 (pc' := 49) rfl kX5_380 (con_X5_beside l hTw (by rw [r5]; exact hw9) here i (by rw [r5]; exact hh) (by omega)) (tw_t hTw) rfl rfl rfl (Nat.le_of_ble_eq_true rfl) (by omega) (by decide) (by omega) (by omega) ?_ (fun _ _ q _ => False.elim q)
      rw [r5]
      refine zs_aload_n hΓ dX5_choose_49 (pc' := 50) rfl rfl rfl ?_
      refine zs_geti hΓ dX5_choose_50 (pc' := 53) rfl fX5_383 (i9 := 35) rfl rfl (tw_t hTw) ?_
      refine zs_eqI W.e35 ?_
      refine zs_icmpne hΓ dX5_choose_53 (tgt := 58) (by decide) (pc' := 56) rfl (fun c_53 => ?_) (fun c_53 => ?_)
      · refine zs_iinc hΓ dX5_choose_58 (pc' := 61) rfl (L' := [some (zR _), some (zI _), none, none, none, none]) rfl (by unfold inI; omega) (by decide) rfl rfl ?_
        refine zs_goto hΓ dX5_choose_61 (tgt := 34) (by decide) ?_
        exact ih (i + 1) (by omega) (by omega) (by rw [hG]; show (if sBeside R here i = goal then i else _) = _; rw [if_neg c_53])
      · refine zs_iload_n hΓ dX5_choose_56 (pc' := 57) rfl rfl rfl ?_
        have e9 : sGoalD (sBeside R here) goal 8 0 = i := by rw [hG]; show (if sBeside R here i = goal then i else _) = i; rw [if_pos c_53]
        exact zs_iret hΓ dX5_choose_57 rfl (by omega) (by omega) (⟨_, rfl, (by rw [hT, e9, if_pos hi0]), Same.rf _ _⟩)
  refine zs_aload_n hΓ dX5_choose_0 (pc' := 1) rfl rfl rfl ?_
  refine zs_aload_n hΓ dX5_choose_1 (pc' := 2) rfl rfl rfl ?_
  refine zs_geti hΓ dX5_choose_2 (pc' := 5) rfl fX5_359 (i9 := 34) rfl rfl (tw_t hTw) ?_
  refine zs_eqI W.e34 ?_
  refine zs_aload_n hΓ dX5_choose_5 (pc' := 6) rfl rfl rfl ?_
  refine zs_geti hΓ dX5_choose_6 (pc' := 9) rfl fX5_383 (i9 := 35) rfl rfl (tw_t hTw) ?_
  refine zs_eqI W.e35 ?_
  refine zs_callVIP hΓ dX5_choose_9 (pc' := 12) rfl kX5_386 (con_X5_across l hTw (by rw [r5]; exact hw9) here goal (by rw [r5]; exact hh) (by rw [r5]; exact hg)) (tw_t hTw) rfl rfl rfl (Nat.le_of_ble_eq_true rfl) (by omega) (by decide) (by omega) (by omega) ?_ (fun _ _ q _ => False.elim q)
  rw [r5]
  refine zs_iconst hΓ dX5_choose_12 (pc' := 13) rfl ⟨by decide, by decide⟩ ?_
  refine zs_icmpge hΓ dX5_choose_13 (tgt := 64) (by decide) (pc' := 16) rfl (fun c_13 => ?_) (fun c_13 => ?_)
  · refine zs_iconst hΓ dX5_choose_64 (pc' := 65) rfl ⟨by decide, by decide⟩ ?_
    refine zs_istore_n hΓ dX5_choose_65 (pc' := 66) rfl (L' := [some (zR _), some (zI _), none, none, none, none]) rfl (by decide) rfl rfl ?_
    refine zs_iconst hΓ dX5_choose_66 (pc' := 67) rfl ⟨by decide, by decide⟩ ?_
    refine zs_istore_n hΓ dX5_choose_67 (pc' := 68) rfl (L' := [some (zR _), some (zI _), some (zI _), none, none, none]) rfl (by decide) rfl rfl ?_
    refine zs_iconst hΓ dX5_choose_68 (pc' := 69) rfl ⟨by decide, by decide⟩ ?_
    refine zs_istore_n hΓ dX5_choose_69 (pc' := 70) rfl (L' := [some (zR _), some (zI _), some (zI _), some (zI _), none, none]) rfl (by decide) rfl rfl ?_
    exact hend (hfar fun z => absurd z.1 (by omega))
  · refine zs_aload_n hΓ dX5_choose_16 (pc' := 17) rfl rfl rfl ?_
    refine zs_aload_n hΓ dX5_choose_17 (pc' := 18) rfl rfl rfl ?_
    refine zs_geti hΓ dX5_choose_18 (pc' := 21) rfl fX5_359 (i9 := 34) rfl rfl (tw_t hTw) ?_
    refine zs_eqI W.e34 ?_
    refine zs_aload_n hΓ dX5_choose_21 (pc' := 22) rfl rfl rfl ?_
    refine zs_geti hΓ dX5_choose_22 (pc' := 25) rfl fX5_383 (i9 := 35) rfl rfl (tw_t hTw) ?_
    refine zs_eqI W.e35 ?_
    refine zs_callVIP hΓ dX5_choose_25 (pc' := 28) rfl kX5_389 (con_X5_along l hTw (by rw [r5]; exact hw9) here goal (by rw [r5]; exact hh) (by rw [r5]; exact hg)) (tw_t hTw) rfl rfl rfl (Nat.le_of_ble_eq_true rfl) (by omega) (by decide) (by omega) (by omega) ?_ (fun _ _ q _ => False.elim q)
    rw [r5]
    refine zs_iconst hΓ dX5_choose_28 (pc' := 29) rfl ⟨by decide, by decide⟩ ?_
    refine zs_icmpge hΓ dX5_choose_29 (tgt := 64) (by decide) (pc' := 32) rfl (fun c_29 => ?_) (fun c_29 => ?_)
    · refine zs_iconst hΓ dX5_choose_64 (pc' := 65) rfl ⟨by decide, by decide⟩ ?_
      refine zs_istore_n hΓ dX5_choose_65 (pc' := 66) rfl (L' := [some (zR _), some (zI _), none, none, none, none]) rfl (by decide) rfl rfl ?_
      refine zs_iconst hΓ dX5_choose_66 (pc' := 67) rfl ⟨by decide, by decide⟩ ?_
      refine zs_istore_n hΓ dX5_choose_67 (pc' := 68) rfl (L' := [some (zR _), some (zI _), some (zI _), none, none, none]) rfl (by decide) rfl rfl ?_
      refine zs_iconst hΓ dX5_choose_68 (pc' := 69) rfl ⟨by decide, by decide⟩ ?_
      refine zs_istore_n hΓ dX5_choose_69 (pc' := 70) rfl (L' := [some (zR _), some (zI _), some (zI _), some (zI _), none, none]) rfl (by decide) rfl rfl ?_
      exact hend (hfar fun z => absurd z.2 (by omega))
    · refine zs_iconst hΓ dX5_choose_32 (pc' := 33) rfl ⟨by decide, by decide⟩ ?_
      refine zs_istore_n hΓ dX5_choose_33 (pc' := 34) rfl (L' := [some (zR _), some (zI _), none, none, none, none]) rfl (by decide) rfl rfl ?_
      exact lp1 8 0 (by omega) (by omega) rfl
