/-! THE TWIN, D: public methods that write the row or the tape -/
set_option maxRecDepth 100000
theorem con_X5_cell (l : Launch) {h : zH} (hTw : TwT h) (hw : RW (gI h (1, 5))) (c w : Int) : Con l mX5_cell 4 0 0 [zR (some (1, 0)), zI c, zI w] h (rI fun x h' => ((sIsCell (gI h (1, 5)) c ∧ 0 ≤ w ∧ w ≤ 8) → x = (if w < 7 then cel (gI h (1, 5)) c w else if w = 7 then iB (sWorn (gI h (1, 5)) (gI h (1, 0) 28) c) else iB (sMuddy (gI h (1, 5)) (gI h (1, 0) 28) (gI h (1, 0) 29) c)) ∧ h' = setI h (1, 0) 0 0) ∧ (¬ (sIsCell (gI h (1, 5)) c ∧ 0 ≤ w ∧ w ≤ 8) → x = 0 ∧ h' = setI h (1, 0) 0 1)) zNo := by
  refine Con.ofS (by decide +kernel) (Nat.le_of_ble_eq_true rfl) fun Γ hΓ hno hwf hav => ?_
  have hΓ : Ctx Γ l cX5_cell RX5 "cell" 3 (Option.some Jvm.ClassFile.FieldType.int) _ _ 4 _ _ := hΓ
  show SS Γ 0 [some (zR _), some (zI _), some (zI _)] [] _ 0 0
  have hc9 := hw.c
  have e5 : ∀ v, gI (setI h (1, 0) 0 v) (1, 5) = gI h (1, 5) := fun v => gI_ot h 0 v (by decide)
  have e28 : ∀ v, gI (setI h (1, 0) 0 v) (1, 0) 28 = gI h (1, 0) 28 := fun v => by rw [gI_setI, if_neg (by omega)]
  have e29 : ∀ v, gI (setI h (1, 0) 0 v) (1, 0) 29 = gI h (1, 0) 29 := fun v => by rw [gI_setI, if_neg (by omega)]
  have e5 := e5 0
  have e28 := e28 0
  have e29 := e29 0
  refine zs_aload_n hΓ dX5_cell_0 (pc' := 1) rfl rfl rfl ?_
  refine zs_aload_n hΓ dX5_cell_1 (pc' := 2) rfl rfl rfl ?_
  refine zs_iload_n hΓ dX5_cell_2 (pc' := 3) rfl rfl rfl ?_
  refine zs_callVIP hΓ dX5_cell_3 (pc' := 6) rfl kX5_155 (con_X5_isCell l hTw hw c) (tw_t hTw) rfl rfl rfl (Nat.le_of_ble_eq_true rfl) (by omega) (by decide) (by omega) (by omega) ?_ (fun _ _ q _ => False.elim q)
  refine zs_ifeq hΓ dX5_cell_6 (tgt := 19) (by decide) (pc' := 9) rfl (fun c_6 => ?_) (fun c_6 => ?_)
  · try have c_6 := iB_eq c_6
    refine zs_iconst hΓ dX5_cell_19 (pc' := 20) rfl ⟨by decide, by decide⟩ ?_
    refine zs_goto hΓ dX5_cell_20 (tgt := 24) (by decide) ?_
    refine zs_callVIE hΓ dX5_cell_24 (pc' := 27) rfl kX5_439 (con_X5_throwsIf l hTw _ (by omega)) (tw_t hTw) rfl rfl rfl (Nat.le_of_ble_eq_true rfl) (by omega) (by decide) (by omega) (by omega) ?_ (fun _ _ q _ => False.elim q)
    refine zs_ifeq hΓ dX5_cell_27 (tgt := 32) (by decide) (pc' := 30) rfl (fun c_27 => False.elim (absurd c_27 (by decide))) (fun c_27 => ?_)
    refine zs_iconst hΓ dX5_cell_30 (pc' := 31) rfl ⟨by decide, by decide⟩ ?_
    exact zs_iret hΓ dX5_cell_31 rfl (by omega) (by omega) (⟨_, rfl, fun z => absurd z (by omega), fun _ => ⟨rfl, rfl⟩⟩)
  · try have c_6 := iB_ne c_6
    refine zs_iload_n hΓ dX5_cell_9 (pc' := 10) rfl rfl rfl ?_
    refine zs_iconst hΓ dX5_cell_10 (pc' := 11) rfl ⟨by decide, by decide⟩ ?_
    refine zs_bipush hΓ dX5_cell_11 (pc' := 13) rfl ⟨by decide, by decide⟩ ?_
    refine zs_callSIP hΓ dX5_cell_13 (pc' := 16) rfl kX5_132 (con_X5_isIn l _ _ _) rfl rfl (Nat.le_of_ble_eq_true rfl) (by omega) (by decide) (by omega) (by omega) ?_ (fun _ _ q _ => False.elim q)
    refine zs_ifne hΓ dX5_cell_16 (tgt := 23) (by decide) (pc' := 19) rfl (fun c_16 => ?_) (fun c_16 => ?_)
    · try have c_16 := iB_ne c_16
      refine zs_iconst hΓ dX5_cell_23 (pc' := 24) rfl ⟨by decide, by decide⟩ ?_
      refine zs_callVIE hΓ dX5_cell_24 (pc' := 27) rfl kX5_439 (con_X5_throwsIf l hTw _ (by omega)) (tw_t hTw) rfl rfl rfl (Nat.le_of_ble_eq_true rfl) (by omega) (by decide) (by omega) (by omega) ?_ (fun _ _ q _ => False.elim q)
      refine zs_ifeq hΓ dX5_cell_27 (tgt := 32) (by decide) (pc' := 30) rfl (fun c_27 => ?_) (fun c_27 => False.elim (absurd rfl c_27))
      refine zs_iload_n hΓ dX5_cell_32 (pc' := 33) rfl rfl rfl ?_
      refine zs_bipush hΓ dX5_cell_33 (pc' := 35) rfl ⟨by decide, by decide⟩ ?_
      refine zs_icmpge hΓ dX5_cell_35 (tgt := 47) (by decide) (pc' := 38) rfl (fun c_35 => ?_) (fun c_35 => ?_)
      · refine zs_iload_n hΓ dX5_cell_47 (pc' := 48) rfl rfl rfl ?_
        refine zs_bipush hΓ dX5_cell_48 (pc' := 50) rfl ⟨by decide, by decide⟩ ?_
        refine zs_icmpne hΓ dX5_cell_50 (tgt := 69) (by decide) (pc' := 53) rfl (fun c_50 => ?_) (fun c_50 => ?_)
        · refine zs_aload_n hΓ dX5_cell_69 (pc' := 70) rfl rfl rfl ?_
          refine zs_iload_n hΓ dX5_cell_70 (pc' := 71) rfl rfl rfl ?_
          refine zs_callVIP hΓ dX5_cell_71 (pc' := 74) rfl kX5_331 (con_X5_isMuddy l (h := setI h (1, 0) 0 0) hTw c (by omega)) (tw_t hTw) rfl rfl rfl (Nat.le_of_ble_eq_true rfl) (by omega) (by decide) (by omega) (by omega) ?_ (fun _ _ q _ => False.elim q)
          refine zs_ifeq hΓ dX5_cell_74 (tgt := 81) (by decide) (pc' := 77) rfl (fun c_74 => ?_) (fun c_74 => ?_)
          · try have c_74 := iB_eq c_74
            rw [e5, e28, e29] at c_74
            refine zs_iconst hΓ dX5_cell_81 (pc' := 82) rfl ⟨by decide, by decide⟩ ?_
            exact zs_iret hΓ dX5_cell_82 rfl (by omega) (by omega) (⟨_, rfl, fun _ => ⟨by rw [if_neg (by omega), if_neg (by omega)]; exact iB_f c_74, rfl⟩, fun z => absurd z (by omega)⟩)
          · try have c_74 := iB_ne c_74
            rw [e5, e28, e29] at c_74
            refine zs_iconst hΓ dX5_cell_77 (pc' := 78) rfl ⟨by decide, by decide⟩ ?_
            refine zs_goto hΓ dX5_cell_78 (tgt := 82) (by decide) ?_
            exact zs_iret hΓ dX5_cell_82 rfl (by omega) (by omega) (⟨_, rfl, fun _ => ⟨by rw [if_neg (by omega), if_neg (by omega)]; exact iB_t c_74, rfl⟩, fun z => absurd z (by omega)⟩)
        · refine zs_aload_n hΓ dX5_cell_53 (pc' := 54) rfl rfl rfl ?_
          refine zs_iload_n hΓ dX5_cell_54 (pc' := 55) rfl rfl rfl ?_
          refine zs_callVIP hΓ dX5_cell_55 (pc' := 58) rfl kX5_140 (con_X5_isWorn l (h := setI h (1, 0) 0 0) hTw c (by omega)) (tw_t hTw) rfl rfl rfl (Nat.le_of_ble_eq_true rfl) (by omega) (by decide) (by omega) (by omega) ?_ (fun _ _ q _ => False.elim q)
          refine zs_ifeq hΓ dX5_cell_58 (tgt := 65) (by decide) (pc' := 61) rfl (fun c_58 => ?_) (fun c_58 => ?_)
          · try have c_58 := iB_eq c_58
            rw [e5, e28] at c_58
            refine zs_iconst hΓ dX5_cell_65 (pc' := 66) rfl ⟨by decide, by decide⟩ ?_
            refine zs_goto hΓ dX5_cell_66 (tgt := 82) (by decide) ?_
            exact zs_iret hΓ dX5_cell_82 rfl (by omega) (by omega) (⟨_, rfl, fun _ => ⟨by rw [if_neg (by omega), if_pos (by omega)]; exact iB_f c_58, rfl⟩, fun z => absurd z (by omega)⟩)
          · try have c_58 := iB_ne c_58
            rw [e5, e28] at c_58
            refine zs_iconst hΓ dX5_cell_61 (pc' := 62) rfl ⟨by decide, by decide⟩ ?_
            refine zs_goto hΓ dX5_cell_62 (tgt := 82) (by decide) ?_
            exact zs_iret hΓ dX5_cell_82 rfl (by omega) (by omega) (⟨_, rfl, fun _ => ⟨by rw [if_neg (by omega), if_pos (by omega)]; exact iB_t c_58, rfl⟩, fun z => absurd z (by omega)⟩)
      · refine zs_aload_n hΓ dX5_cell_38 (pc' := 39) rfl rfl rfl ?_
        refine zs_iload_n hΓ dX5_cell_39 (pc' := 40) rfl rfl rfl ?_
        refine zs_iload_n hΓ dX5_cell_40 (pc' := 41) rfl rfl rfl ?_
        refine zs_callVIP hΓ dX5_cell_41 (pc' := 44) rfl kX5_136 (con_X5_of l (h := setI h (1, 0) 0 0) hTw c w (by omega) (by omega)) (tw_t hTw) rfl rfl rfl (Nat.le_of_ble_eq_true rfl) (by omega) (by decide) (by omega) (by omega) ?_ (fun _ _ q _ => False.elim q)
        refine zs_goto hΓ dX5_cell_44 (tgt := 82) (by decide) ?_
        exact zs_iret hΓ dX5_cell_82 rfl (by omega) (by omega) (⟨_, rfl, fun _ => ⟨by rw [if_pos (by omega), e5], rfl⟩, fun z => absurd z (by omega)⟩)
    · try have c_16 := iB_eq c_16
      refine zs_iconst hΓ dX5_cell_19 (pc' := 20) rfl ⟨by decide, by decide⟩ ?_
      refine zs_goto hΓ dX5_cell_20 (tgt := 24) (by decide) ?_
      refine zs_callVIE hΓ dX5_cell_24 (pc' := 27) rfl kX5_439 (con_X5_throwsIf l hTw _ (by omega)) (tw_t hTw) rfl rfl rfl (Nat.le_of_ble_eq_true rfl) (by omega) (by decide) (by omega) (by omega) ?_ (fun _ _ q _ => False.elim q)
      refine zs_ifeq hΓ dX5_cell_27 (tgt := 32) (by decide) (pc' := 30) rfl (fun c_27 => False.elim (absurd c_27 (by decide))) (fun c_27 => ?_)
      refine zs_iconst hΓ dX5_cell_30 (pc' := 31) rfl ⟨by decide, by decide⟩ ?_
      exact zs_iret hΓ dX5_cell_31 rfl (by omega) (by omega) (⟨_, rfl, fun z => absurd z (by omega), fun _ => ⟨rfl, rfl⟩⟩)
theorem con_X5_door (l : Launch) {h h1 : zH} (e1 : h1 = setI h (1, 0) 0 0) (hT1 : TwT h1) (hw : RW (gI h1 (1, 5))) (hn : 0 ≤ gI h1 (1, 5) 2 ∧ gI h1 (1, 5) 2 ≤ 9) (c : Int) : Con l mX5_door 3 0 0 [zR (some (1, 0)), zI c] h (rI fun x h' => ((gI h1 (1, 5) 2 ≠ 9 ∧ sIsCell (gI h1 (1, 5)) c ∧ sBears (gI h1 (1, 5)) c ∧ ¬ sDoorAt (gI h1 (1, 5)) c) → x = gI h1 (1, 5) 2 ∧ h' = setI (setI h1 (1, 5) (3 + gI h1 (1, 5) 2) c) (1, 5) 2 (gI h1 (1, 5) 2 + 1)) ∧ (¬ (gI h1 (1, 5) 2 ≠ 9 ∧ sIsCell (gI h1 (1, 5)) c ∧ sBears (gI h1 (1, 5)) c ∧ ¬ sDoorAt (gI h1 (1, 5)) c) → x = -1 ∧ h' = h1)) zNo := by
  refine Con.ofS (by decide +kernel) (Nat.le_of_ble_eq_true rfl) fun Γ hΓ hno hwf hav => ?_
  have hΓ : Ctx Γ l cX5_door RX5 "door" 2 (Option.some Jvm.ClassFile.FieldType.int) _ _ 3 _ _ := hΓ
  show SS Γ 0 [some (zR _), some (zI _)] [] _ 0 0
  have hTw := hT1.thr e1
  have hc9 := hw.c
  have e2 : gI (setI h1 (1, 5) (3 + gI h1 (1, 5) 2) c) (1, 5) 2 = gI h1 (1, 5) 2 := by rw [gI_setI, if_neg (by omega)]
  have e3 : gI (setI (setI h1 (1, 5) (3 + gI h1 (1, 5) 2) c) (1, 5) 2 (gI h1 (1, 5) 2 + 1)) (1, 5) 2 = gI h1 (1, 5) 2 + 1 := by rw [gI_setI, if_pos ⟨rfl, rfl⟩]
  refine zs_aload_n hΓ dX5_door_0 (pc' := 1) rfl rfl rfl ?_
  refine zs_iconst hΓ dX5_door_1 (pc' := 2) rfl ⟨by decide, by decide⟩ ?_
  refine zs_puti hΓ dX5_door_2 (pc' := 5) rfl fX5_1 (fun q hq => (by cases hq; exact Or.inl rfl)) (i9 := 0) rfl trivial (tw_t hTw) (by decide) ?_
  rw [← e1]; have hTw := hT1
  refine zs_aload_n hΓ dX5_door_5 (pc' := 6) rfl rfl rfl ?_
  refine zs_getrE hΓ dX5_door_6 (pc' := 9) rfl fX5_30 (i9 := 5) rfl rfl (tw_t hTw) (tw_p5 hTw) ?_
  refine zs_iconst hΓ dX5_door_9 (pc' := 10) rfl ⟨by decide, by decide⟩ ?_
  refine zs_iald hΓ dX5_door_10 (pc' := 11) rfl (tw_a5 hTw) (by omega) (by omega) ?_
  refine zs_bipush hΓ dX5_door_11 (pc' := 13) rfl ⟨by decide, by decide⟩ ?_
  refine zs_icmpeq hΓ dX5_door_13 (tgt := 40) (by decide) (pc' := 16) rfl (fun c_13 => ?_) (fun c_13 => ?_)
  · refine zs_iconst hΓ dX5_door_40 (pc' := 41) rfl ⟨by decide, by decide⟩ ?_
    exact zs_iret hΓ dX5_door_41 rfl (by omega) (by omega) (⟨_, rfl, fun z => absurd c_13 z.1, fun _ => ⟨rfl, rfl⟩⟩)
  · refine zs_aload_n hΓ dX5_door_16 (pc' := 17) rfl rfl rfl ?_
    refine zs_iload_n hΓ dX5_door_17 (pc' := 18) rfl rfl rfl ?_
    refine zs_callVIP hΓ dX5_door_18 (pc' := 21) rfl kX5_155 (con_X5_isCell l hTw hw c) (tw_t hTw) rfl rfl rfl (Nat.le_of_ble_eq_true rfl) (by omega) (by decide) (by omega) (by omega) ?_ (fun _ _ q _ => False.elim q)
    refine zs_ifeq hΓ dX5_door_21 (tgt := 40) (by decide) (pc' := 24) rfl (fun c_21 => ?_) (fun c_21 => ?_)
    · try have c_21 := iB_eq c_21
      refine zs_iconst hΓ dX5_door_40 (pc' := 41) rfl ⟨by decide, by decide⟩ ?_
      exact zs_iret hΓ dX5_door_41 rfl (by omega) (by omega) (⟨_, rfl, fun z => absurd z.2.1 c_21, fun _ => ⟨rfl, rfl⟩⟩)
    · try have c_21 := iB_ne c_21
      refine zs_aload_n hΓ dX5_door_24 (pc' := 25) rfl rfl rfl ?_
      refine zs_iload_n hΓ dX5_door_25 (pc' := 26) rfl rfl rfl ?_
      refine zs_callVIP hΓ dX5_door_26 (pc' := 29) rfl kX5_158 (con_X5_bears l hTw c (by omega)) (tw_t hTw) rfl rfl rfl (Nat.le_of_ble_eq_true rfl) (by omega) (by decide) (by omega) (by omega) ?_ (fun _ _ q _ => False.elim q)
      refine zs_ifeq hΓ dX5_door_29 (tgt := 40) (by decide) (pc' := 32) rfl (fun c_29 => ?_) (fun c_29 => ?_)
      · try have c_29 := iB_eq c_29
        refine zs_iconst hΓ dX5_door_40 (pc' := 41) rfl ⟨by decide, by decide⟩ ?_
        exact zs_iret hΓ dX5_door_41 rfl (by omega) (by omega) (⟨_, rfl, fun z => absurd z.2.2.1 c_29, fun _ => ⟨rfl, rfl⟩⟩)
      · try have c_29 := iB_ne c_29
        refine zs_aload_n hΓ dX5_door_32 (pc' := 33) rfl rfl rfl ?_
        refine zs_iload_n hΓ dX5_door_33 (pc' := 34) rfl rfl rfl ?_
        refine zs_callVIP hΓ dX5_door_34 (pc' := 37) rfl kX5_161 (con_X5_isDoorAt l hTw c hn) (tw_t hTw) rfl rfl rfl (Nat.le_of_ble_eq_true rfl) (by omega) (by decide) (by omega) (by omega) ?_ (fun _ _ q _ => False.elim q)
        refine zs_ifeq hΓ dX5_door_37 (tgt := 42) (by decide) (pc' := 40) rfl (fun c_37 => ?_) (fun c_37 => ?_)
        · try have c_37 := iB_eq c_37
          refine zs_aload_n hΓ dX5_door_42 (pc' := 43) rfl rfl rfl ?_
          refine zs_getrE hΓ dX5_door_43 (pc' := 46) rfl fX5_30 (i9 := 5) rfl rfl (tw_t hTw) (tw_p5 hTw) ?_
          refine zs_iconst hΓ dX5_door_46 (pc' := 47) rfl ⟨by decide, by decide⟩ ?_
          refine zs_aload_n hΓ dX5_door_47 (pc' := 48) rfl rfl rfl ?_
          refine zs_getrE hΓ dX5_door_48 (pc' := 51) rfl fX5_30 (i9 := 5) rfl rfl (tw_t hTw) (tw_p5 hTw) ?_
          refine zs_iconst hΓ dX5_door_51 (pc' := 52) rfl ⟨by decide, by decide⟩ ?_
          refine zs_iald hΓ dX5_door_52 (pc' := 53) rfl (tw_a5 hTw) (by omega) (by omega) ?_
          refine zs_iadd hΓ dX5_door_53 (pc' := 54) rfl (by unfold inI; omega) ?_
          refine zs_iload_n hΓ dX5_door_54 (pc' := 55) rfl rfl rfl ?_
          refine zs_iast hΓ dX5_door_55 (pc' := 56) rfl (tw_a5 hTw) (by decide) (by omega) (by omega) ?_
          refine zs_aload_n hΓ dX5_door_56 (pc' := 57) rfl rfl rfl ?_
          refine zs_getrE hΓ dX5_door_57 (pc' := 60) rfl fX5_30 (i9 := 5) rfl rfl (tw_t hTw) (tw_p5 hTw) ?_
          refine zs_iconst hΓ dX5_door_60 (pc' := 61) rfl ⟨by decide, by decide⟩ ?_
          refine zs_dup2 hΓ dX5_door_61 (pc' := 62) rfl  ?_
          refine zs_iald hΓ dX5_door_62 (pc' := 63) rfl (tw_a5 hTw) (by omega) (by omega) ?_
          refine zs_eqI e2 ?_
          refine zs_iconst hΓ dX5_door_63 (pc' := 64) rfl ⟨by decide, by decide⟩ ?_
          refine zs_iadd hΓ dX5_door_64 (pc' := 65) rfl (by unfold inI; omega) ?_
          refine zs_iast hΓ dX5_door_65 (pc' := 66) rfl (tw_a5 hTw) (by decide) (by omega) (by omega) ?_
          refine zs_aload_n hΓ dX5_door_66 (pc' := 67) rfl rfl rfl ?_
          refine zs_getrE hΓ dX5_door_67 (pc' := 70) rfl fX5_30 (i9 := 5) rfl rfl (tw_t hTw) (tw_p5 hTw) ?_
          refine zs_iconst hΓ dX5_door_70 (pc' := 71) rfl ⟨by decide, by decide⟩ ?_
          refine zs_iald hΓ dX5_door_71 (pc' := 72) rfl (tw_a5 hTw) (by omega) (by omega) ?_
          refine zs_eqI e3 ?_
          refine zs_iconst hΓ dX5_door_72 (pc' := 73) rfl ⟨by decide, by decide⟩ ?_
          refine zs_isub hΓ dX5_door_73 (pc' := 74) rfl (by unfold inI; omega) ?_
          exact zs_iret hΓ dX5_door_74 rfl (by omega) (by omega) (⟨_, rfl, fun _ => ⟨by omega, rfl⟩, fun z => absurd ⟨c_13, c_21, c_29, c_37⟩ z⟩)
        · try have c_37 := iB_ne c_37
          refine zs_iconst hΓ dX5_door_40 (pc' := 41) rfl ⟨by decide, by decide⟩ ?_
          exact zs_iret hΓ dX5_door_41 rfl (by omega) (by omega) (⟨_, rfl, fun z => absurd c_37 z.2.2.2, fun _ => ⟨rfl, rfl⟩⟩)
theorem con_X5_lay (l : Launch) {h h1 : zH} (e1 : h1 = setI h (1, 0) 0 0) (hT1 : TwT h1) (hw : RW (gI h1 (1, 5))) (hn : 0 ≤ gI h1 (1, 5) 2 ∧ gI h1 (1, 5) 2 ≤ 9) (hm : 0 ≤ gI h1 (1, 5) 157 ∧ gI h1 (1, 5) 157 ≤ 60) (c k : Int) : Con l mX5_lay 4 0 0 [zR (some (1, 0)), zI c, zI k] h (rI fun x h' => ((sIsCell (gI h1 (1, 5)) c ∧ (0 ≤ k ∧ k ≤ 6) ∧ ¬ ((k = 3 ∨ k = 6) ∧ (sDoorAt (gI h1 (1, 5)) c ∨ sWalkAt (gI h1 (1, 5)) c))) → x = 1 ∧ Same (fun a _ => a = (1, 5)) h1 h' ∧ gI h' (1, 5) = sLay (gI h1 (1, 5)) c k) ∧ (¬ (sIsCell (gI h1 (1, 5)) c ∧ (0 ≤ k ∧ k ≤ 6) ∧ ¬ ((k = 3 ∨ k = 6) ∧ (sDoorAt (gI h1 (1, 5)) c ∨ sWalkAt (gI h1 (1, 5)) c))) → x = 0 ∧ h' = h1)) zNo := by
  refine Con.ofS (by decide +kernel) (Nat.le_of_ble_eq_true rfl) fun Γ hΓ hno hwf hav => ?_
  have hΓ : Ctx Γ l cX5_lay RX5 "lay" 3 (Option.some Jvm.ClassFile.FieldType.boolean) _ _ 4 _ _ := hΓ
  show SS Γ 0 [some (zR _), some (zI _), some (zI _)] [] _ 0 0
  have hTw := hT1.thr e1
  have hc9 := hw.c
  refine zs_aload_n hΓ dX5_lay_0 (pc' := 1) rfl rfl rfl ?_
  refine zs_iconst hΓ dX5_lay_1 (pc' := 2) rfl ⟨by decide, by decide⟩ ?_
  refine zs_puti hΓ dX5_lay_2 (pc' := 5) rfl fX5_1 (fun q hq => (by cases hq; exact Or.inl rfl)) (i9 := 0) rfl trivial (tw_t hTw) (by decide) ?_
  rw [← e1]; have hTw := hT1
  refine zs_aload_n hΓ dX5_lay_5 (pc' := 6) rfl rfl rfl ?_
  refine zs_iload_n hΓ dX5_lay_6 (pc' := 7) rfl rfl rfl ?_
  refine zs_callVIP hΓ dX5_lay_7 (pc' := 10) rfl kX5_155 (con_X5_isCell l hTw hw c) (tw_t hTw) rfl rfl rfl (Nat.le_of_ble_eq_true rfl) (by omega) (by decide) (by omega) (by omega) ?_ (fun _ _ q _ => False.elim q)
  refine zs_ifeq hΓ dX5_lay_10 (tgt := 50) (by decide) (pc' := 13) rfl (fun c_10 => ?_) (fun c_10 => ?_)
  · try have c_10 := iB_eq c_10
    refine zs_iconst hΓ dX5_lay_50 (pc' := 51) rfl ⟨by decide, by decide⟩ ?_
    exact zs_zret hΓ dX5_lay_51 rfl (by first | omega | exact iB_01 _) (by omega) (by omega) (⟨_, rfl, fun z => absurd z.1 c_10, fun _ => ⟨rfl, rfl⟩⟩)
  · try have c_10 := iB_ne c_10
    refine zs_iload_n hΓ dX5_lay_13 (pc' := 14) rfl rfl rfl ?_
    refine zs_iconst hΓ dX5_lay_14 (pc' := 15) rfl ⟨by decide, by decide⟩ ?_
    refine zs_bipush hΓ dX5_lay_15 (pc' := 17) rfl ⟨by decide, by decide⟩ ?_
    refine zs_callSIP hΓ dX5_lay_17 (pc' := 20) rfl kX5_132 (con_X5_isIn l _ _ _) rfl rfl (Nat.le_of_ble_eq_true rfl) (by omega) (by decide) (by omega) (by omega) ?_ (fun _ _ q _ => False.elim q)
    refine zs_ifeq hΓ dX5_lay_20 (tgt := 50) (by decide) (pc' := 23) rfl (fun c_20 => ?_) (fun c_20 => ?_)
    · try have c_20 := iB_eq c_20
      refine zs_iconst hΓ dX5_lay_50 (pc' := 51) rfl ⟨by decide, by decide⟩ ?_
      exact zs_zret hΓ dX5_lay_51 rfl (by first | omega | exact iB_01 _) (by omega) (by omega) (⟨_, rfl, fun z => absurd z.2.1 c_20, fun _ => ⟨rfl, rfl⟩⟩)
    · try have c_20 := iB_ne c_20
      refine zs_iload_n hΓ dX5_lay_23 (pc' := 24) rfl rfl rfl ?_
      refine zs_iconst hΓ dX5_lay_24 (pc' := 25) rfl ⟨by decide, by decide⟩ ?_
      refine zs_icmpeq hΓ dX5_lay_25 (tgt := 34) (by decide) (pc' := 28) rfl (fun c_25 => ?_) (fun c_25 => ?_)
      · refine zs_aload_n hΓ dX5_lay_34 (pc' := 35) rfl rfl rfl ?_
        refine zs_iload_n hΓ dX5_lay_35 (pc' := 36) rfl rfl rfl ?_
        refine zs_callVIP hΓ dX5_lay_36 (pc' := 39) rfl kX5_161 (con_X5_isDoorAt l hTw c hn) (tw_t hTw) rfl rfl rfl (Nat.le_of_ble_eq_true rfl) (by omega) (by decide) (by omega) (by omega) ?_ (fun _ _ q _ => False.elim q)
        refine zs_ifne hΓ dX5_lay_39 (tgt := 50) (by decide) (pc' := 42) rfl (fun c_39 => ?_) (fun c_39 => ?_)
        · try have c_39 := iB_ne c_39
          refine zs_iconst hΓ dX5_lay_50 (pc' := 51) rfl ⟨by decide, by decide⟩ ?_
          exact zs_zret hΓ dX5_lay_51 rfl (by first | omega | exact iB_01 _) (by omega) (by omega) (⟨_, rfl, fun z => absurd ⟨Or.inl c_25, Or.inl c_39⟩ z.2.2, fun _ => ⟨rfl, rfl⟩⟩)
        · try have c_39 := iB_eq c_39
          refine zs_aload_n hΓ dX5_lay_42 (pc' := 43) rfl rfl rfl ?_
          refine zs_iload_n hΓ dX5_lay_43 (pc' := 44) rfl rfl rfl ?_
          refine zs_callVIP hΓ dX5_lay_44 (pc' := 47) rfl kX5_432 (con_X5_isWalkerAt l hTw c hm) (tw_t hTw) rfl rfl rfl (Nat.le_of_ble_eq_true rfl) (by omega) (by decide) (by omega) (by omega) ?_ (fun _ _ q _ => False.elim q)
          refine zs_ifeq hΓ dX5_lay_47 (tgt := 52) (by decide) (pc' := 50) rfl (fun c_47 => ?_) (fun c_47 => ?_)
          · try have c_47 := iB_eq c_47
            refine zs_aload_n hΓ dX5_lay_52 (pc' := 53) rfl rfl rfl ?_
            refine zs_iload_n hΓ dX5_lay_53 (pc' := 54) rfl rfl rfl ?_
            refine zs_iload_n hΓ dX5_lay_54 (pc' := 55) rfl rfl rfl ?_
            refine zs_callVV hΓ dX5_lay_55 (pc' := 58) rfl kX5_435 (con_X5_put l hTw c k (by omega) (by omega)) (tw_t hTw) rfl rfl rfl (Nat.le_of_ble_eq_true rfl) (by omega) (by decide) (by omega) (by omega) (fun h_55 q_55 k_55 => ?_) (fun _ _ q _ => False.elim q)
            obtain ⟨q1, q2⟩ := q_55
            refine zs_iconst hΓ dX5_lay_58 (pc' := 59) rfl ⟨by decide, by decide⟩ ?_
            exact zs_zret hΓ dX5_lay_59 rfl (by first | omega | exact iB_01 _) (by omega) (by omega) (⟨_, rfl, fun _ => ⟨rfl, q1, q2⟩, fun z => absurd ⟨c_10, c_20, fun w => by rcases w.2 with q | q; exact c_39 q; exact c_47 q⟩ z⟩)
          · try have c_47 := iB_ne c_47
            refine zs_iconst hΓ dX5_lay_50 (pc' := 51) rfl ⟨by decide, by decide⟩ ?_
            exact zs_zret hΓ dX5_lay_51 rfl (by first | omega | exact iB_01 _) (by omega) (by omega) (⟨_, rfl, fun z => absurd ⟨Or.inl c_25, Or.inr c_47⟩ z.2.2, fun _ => ⟨rfl, rfl⟩⟩)
      · refine zs_iload_n hΓ dX5_lay_28 (pc' := 29) rfl rfl rfl ?_
        refine zs_bipush hΓ dX5_lay_29 (pc' := 31) rfl ⟨by decide, by decide⟩ ?_
        refine zs_icmpne hΓ dX5_lay_31 (tgt := 52) (by decide) (pc' := 34) rfl (fun c_31 => ?_) (fun c_31 => ?_)
        · refine zs_aload_n hΓ dX5_lay_52 (pc' := 53) rfl rfl rfl ?_
          refine zs_iload_n hΓ dX5_lay_53 (pc' := 54) rfl rfl rfl ?_
          refine zs_iload_n hΓ dX5_lay_54 (pc' := 55) rfl rfl rfl ?_
          refine zs_callVV hΓ dX5_lay_55 (pc' := 58) rfl kX5_435 (con_X5_put l hTw c k (by omega) (by omega)) (tw_t hTw) rfl rfl rfl (Nat.le_of_ble_eq_true rfl) (by omega) (by decide) (by omega) (by omega) (fun h_55 q_55 k_55 => ?_) (fun _ _ q _ => False.elim q)
          obtain ⟨q1, q2⟩ := q_55
          refine zs_iconst hΓ dX5_lay_58 (pc' := 59) rfl ⟨by decide, by decide⟩ ?_
          exact zs_zret hΓ dX5_lay_59 rfl (by first | omega | exact iB_01 _) (by omega) (by omega) (⟨_, rfl, fun _ => ⟨rfl, q1, q2⟩, fun z => absurd ⟨c_10, c_20, fun w => by omega⟩ z⟩)
        · refine zs_aload_n hΓ dX5_lay_34 (pc' := 35) rfl rfl rfl ?_
          refine zs_iload_n hΓ dX5_lay_35 (pc' := 36) rfl rfl rfl ?_
          refine zs_callVIP hΓ dX5_lay_36 (pc' := 39) rfl kX5_161 (con_X5_isDoorAt l hTw c hn) (tw_t hTw) rfl rfl rfl (Nat.le_of_ble_eq_true rfl) (by omega) (by decide) (by omega) (by omega) ?_ (fun _ _ q _ => False.elim q)
          refine zs_ifne hΓ dX5_lay_39 (tgt := 50) (by decide) (pc' := 42) rfl (fun c_39 => ?_) (fun c_39 => ?_)
          · try have c_39 := iB_ne c_39
            refine zs_iconst hΓ dX5_lay_50 (pc' := 51) rfl ⟨by decide, by decide⟩ ?_
            exact zs_zret hΓ dX5_lay_51 rfl (by first | omega | exact iB_01 _) (by omega) (by omega) (⟨_, rfl, fun z => absurd ⟨Or.inr c_31, Or.inl c_39⟩ z.2.2, fun _ => ⟨rfl, rfl⟩⟩)
          · try have c_39 := iB_eq c_39
            refine zs_aload_n hΓ dX5_lay_42 (pc' := 43) rfl rfl rfl ?_
            refine zs_iload_n hΓ dX5_lay_43 (pc' := 44) rfl rfl rfl ?_
            refine zs_callVIP hΓ dX5_lay_44 (pc' := 47) rfl kX5_432 (con_X5_isWalkerAt l hTw c hm) (tw_t hTw) rfl rfl rfl (Nat.le_of_ble_eq_true rfl) (by omega) (by decide) (by omega) (by omega) ?_ (fun _ _ q _ => False.elim q)
            refine zs_ifeq hΓ dX5_lay_47 (tgt := 52) (by decide) (pc' := 50) rfl (fun c_47 => ?_) (fun c_47 => ?_)
            · try have c_47 := iB_eq c_47
              refine zs_aload_n hΓ dX5_lay_52 (pc' := 53) rfl rfl rfl ?_
              refine zs_iload_n hΓ dX5_lay_53 (pc' := 54) rfl rfl rfl ?_
              refine zs_iload_n hΓ dX5_lay_54 (pc' := 55) rfl rfl rfl ?_
              refine zs_callVV hΓ dX5_lay_55 (pc' := 58) rfl kX5_435 (con_X5_put l hTw c k (by omega) (by omega)) (tw_t hTw) rfl rfl rfl (Nat.le_of_ble_eq_true rfl) (by omega) (by decide) (by omega) (by omega) (fun h_55 q_55 k_55 => ?_) (fun _ _ q _ => False.elim q)
              obtain ⟨q1, q2⟩ := q_55
              refine zs_iconst hΓ dX5_lay_58 (pc' := 59) rfl ⟨by decide, by decide⟩ ?_
              exact zs_zret hΓ dX5_lay_59 rfl (by first | omega | exact iB_01 _) (by omega) (by omega) (⟨_, rfl, fun _ => ⟨rfl, q1, q2⟩, fun z => absurd ⟨c_10, c_20, fun w => by rcases w.2 with q | q; exact c_39 q; exact c_47 q⟩ z⟩)
            · try have c_47 := iB_ne c_47
              refine zs_iconst hΓ dX5_lay_50 (pc' := 51) rfl ⟨by decide, by decide⟩ ?_
              exact zs_zret hΓ dX5_lay_51 rfl (by first | omega | exact iB_01 _) (by omega) (by omega) (⟨_, rfl, fun z => absurd ⟨Or.inr c_31, Or.inr c_47⟩ z.2.2, fun _ => ⟨rfl, rfl⟩⟩)
theorem con_X5_snow (l : Launch) {h h1 : zH} (e1 : h1 = setI h (1, 0) 0 0) (hT1 : TwT h1) (hw : RW (gI h1 (1, 5))) : Con l mX5_snow 2 0 0 [zR (some (1, 0))] h (rV fun h' => Same (fun a _ => a = (1, 5)) h1 h' ∧ gI h' (1, 5) = sSnow (gI h1 (1, 5))) zNo := by
  refine Con.ofS (by decide +kernel) (Nat.le_of_ble_eq_true rfl) fun Γ hΓ hno hwf hav => ?_
  have hΓ : Ctx Γ l cX5_snow RX5 "snow" 2 (Option.none : Option Jvm.ClassFile.FieldType) _ _ 2 _ _ := hΓ
  show SS Γ 0 [some (zR _), none] [] _ 0 0
  have hTw := hT1.thr e1
  have hc := hw.c
  have lp : ∀ (n9 : Nat) (i : Int) (h' : zH), (0 ≤ i ∧ i ≤ gI h1 (1, 5) 0 * gI h1 (1, 5) 1) → (Same (fun a _ => a = (1, 5)) h1 h') → (gI h' (1, 5) = mapC i (fun c w => if w = 6 then 0 else cel (gI h1 (1, 5)) c w) (gI h1 (1, 5))) → (gI h1 (1, 5) 0 * gI h1 (1, 5) 1 - i < n9) → SS Γ 7 [some (zR (some (1, 0))), some (zI i)] [] h' 0 0 := by
    intro n9
    induction n9 with
    | zero => intro i h' h8 h2 h3 hm9; exact absurd hm9 (by omega)
    | succ n9 ih =>
      intro i h' h8 h2 h3 hm9
      have hTw := hT1.same h2
      have r0 : gI h' (1, 5) 0 = gI h1 (1, 5) 0 := by rw [h3]; exact mapC_lo (by decide)
      have r1 : gI h' (1, 5) 1 = gI h1 (1, 5) 1 := by rw [h3]; exact mapC_lo (by decide)
      have hw' : RW (gI h' (1, 5)) := by unfold RW; rw [r0, r1]; exact hw
      refine zs_iload_n hΓ dX5_snow_7 (pc' := 8) rfl rfl rfl ?_
      refine zs_aload_n hΓ dX5_snow_8 (pc' := 9) rfl rfl rfl ?_
      refine zs_callVIP hΓ dX5_snow_9 (pc' := 12) rfl kX5_128 (con_X5_cells l hTw hw') (tw_t hTw) rfl rfl rfl (Nat.le_of_ble_eq_true rfl) (by omega) (by decide) (by omega) (by omega) ?_ (fun _ _ q _ => False.elim q)
      rw [r0, r1]
      refine zs_icmpge hΓ dX5_snow_12 (tgt := 29) (by decide) (pc' := 15) rfl (fun c_12 => ?_) (fun c_12 => ?_)
      · exact zs_vret hΓ dX5_snow_29 rfl (by omega) (by omega) (⟨rfl, h2, by rw [h3, show i = gI h1 (1, 5) 0 * gI h1 (1, 5) 1 by omega]; rfl⟩)
      · refine zs_aload_n hΓ dX5_snow_15 (pc' := 16) rfl rfl rfl ?_
        refine zs_iload_n hΓ dX5_snow_16 (pc' := 17) rfl rfl rfl ?_
        refine zs_bipush hΓ dX5_snow_17 (pc' := 19) rfl ⟨by decide, by decide⟩ ?_
        refine zs_iconst hΓ dX5_snow_19 (pc' := 20) rfl ⟨by decide, by decide⟩ ?_
        refine zs_callVVE hΓ dX5_snow_20 (pc' := 23) rfl kX5_151 (con_X5_set l hTw i 6 0 (by omega) (by decide)) (tw_t hTw) rfl rfl rfl (Nat.le_of_ble_eq_true rfl) (by omega) (by decide) (by omega) (by omega) ?_ (fun _ _ q _ => False.elim q)
        refine zs_iinc hΓ dX5_snow_23 (pc' := 26) rfl (L' := [some (zR _), some (zI _)]) rfl (by unfold inI; omega) (by decide) rfl rfl ?_
        refine zs_goto hΓ dX5_snow_26 (tgt := 7) (by decide) ?_
        exact ih (i + 1) _ (by omega) (h2.set rfl) (by rw [gI_up, h3]; exact mapC_s h8.1 (fun w w1 w2 => by by_cases c : w = 6; rw [c, upR_s, if_pos rfl]; rw [upR_n _ _ (by omega), if_neg c]; have := mapC_cel (n := i) (f := fun c w => if w = 6 then 0 else cel (gI h1 (1, 5)) c w) (R := gI h1 (1, 5)) h8.1 ⟨w1, w2⟩; rw [if_neg (by omega)] at this; exact this) (fun j hj => upR_n _ _ (by omega))) (by omega)
  refine zs_aload_n hΓ dX5_snow_0 (pc' := 1) rfl rfl rfl ?_
  refine zs_iconst hΓ dX5_snow_1 (pc' := 2) rfl ⟨by decide, by decide⟩ ?_
  refine zs_puti hΓ dX5_snow_2 (pc' := 5) rfl fX5_1 (fun q hq => (by cases hq; exact Or.inl rfl)) (i9 := 0) rfl trivial (tw_t hTw) (by decide) ?_
  rw [← e1]; have hTw := hT1
  refine zs_iconst hΓ dX5_snow_5 (pc' := 6) rfl ⟨by decide, by decide⟩ ?_
  refine zs_istore_n hΓ dX5_snow_6 (pc' := 7) rfl (L' := [some (zR _), some (zI _)]) rfl (by decide) rfl rfl ?_
  exact lp 257 0 h1 (by omega) (Same.rf _ _) (mapC_0 _ _).symm (by omega)
