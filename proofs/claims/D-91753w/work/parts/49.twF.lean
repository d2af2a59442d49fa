/-! THE TWIN, F: texts: what a line's condition says of a cell -/
set_option maxRecDepth 100000
theorem con_X5_find (l : Launch) {h : zH} (hTw : TwT h) (t kd : Int) (ht : 0 ≤ t ∧ t < 8) (hm : 0 ≤ gI h (1, 9) t ∧ gI h (1, 9) t ≤ 16) : Con l mX5_find 1 0 0 [zR (some (1, 0)), zI t, zI kd] h (rI fun x h' => ((∃ k, (0 ≤ k ∧ k < gI h (1, 9) t) ∧ gI h (1, 10) (16 * t + k) = kd ∧ (∀ j, 0 ≤ j → j < k → gI h (1, 10) (16 * t + j) ≠ kd) ∧ x = 16 * t + k) ∨ ((∀ j, 0 ≤ j → j < gI h (1, 9) t → gI h (1, 10) (16 * t + j) ≠ kd) ∧ x = -1)) ∧ h' = h) zNo := by
  refine Con.ofS (by decide +kernel) (Nat.le_of_ble_eq_true rfl) fun Γ hΓ hno hwf hav => ?_
  have hΓ : Ctx Γ l cX5_find RX5 "find" 4 (Option.some Jvm.ClassFile.FieldType.int) _ _ 1 _ _ := hΓ
  show SS Γ 0 [some (zR _), some (zI _), some (zI _), none] [] _ 0 0
  have lp : ∀ (n9 : Nat) (i : Int), (16 * t ≤ i ∧ i ≤ 16 * t + gI h (1, 9) t) → (∀ j, 0 ≤ j → j < i - 16 * t → gI h (1, 10) (16 * t + j) ≠ kd) → (16 * t + gI h (1, 9) t - i < n9) → SS Γ 5 [some (zR (some (1, 0))), some (zI t), some (zI kd), some (zI i)] [] h 0 0 := by
    intro n9
    induction n9 with
    | zero => intro i h8 h3 hm9; exact absurd hm9 (by omega)
    | succ n9 ih =>
      intro i h8 h3 hm9
      refine zs_iload_n hΓ dX5_find_5 (pc' := 6) rfl rfl rfl ?_
      refine zs_bipush hΓ dX5_find_6 (pc' := 8) rfl ⟨by decide, by decide⟩ ?_
      refine zs_iload_n hΓ dX5_find_8 (pc' := 9) rfl rfl rfl ?_
      refine zs_imul hΓ dX5_find_9 (pc' := 10) rfl (by unfold inI; omega) ?_
      refine zs_aload_n hΓ dX5_find_10 (pc' := 11) rfl rfl rfl ?_
      refine zs_getrE hΓ dX5_find_11 (pc' := 14) rfl fX5_44 (i9 := 9) rfl rfl (tw_t hTw) (tw_p9 hTw) ?_
      refine zs_iload_n hΓ dX5_find_14 (pc' := 15) rfl rfl rfl ?_
      refine zs_iald hΓ dX5_find_15 (pc' := 16) rfl (tw_a9 hTw) (by omega) (by omega) ?_
      refine zs_iadd hΓ dX5_find_16 (pc' := 17) rfl (by unfold inI; omega) ?_
      refine zs_icmpge hΓ dX5_find_17 (tgt := 38) (by decide) (pc' := 20) rfl (fun c_17 => ?_) (fun c_17 => ?_)
      · refine zs_iconst hΓ dX5_find_38 (pc' := 39) rfl ⟨by decide, by decide⟩ ?_
        exact zs_iret hΓ dX5_find_39 rfl (by omega) (by omega) (⟨_, rfl, Or.inr ⟨fun j d1 d2 => h3 j d1 (by omega), rfl⟩, rfl⟩)
      · refine zs_aload_n hΓ dX5_find_20 (pc' := 21) rfl rfl rfl ?_
        refine zs_getrE hΓ dX5_find_21 (pc' := 24) rfl fX5_47 (i9 := 10) rfl rfl (tw_t hTw) (tw_p10 hTw) ?_
        refine zs_iload_n hΓ dX5_find_24 (pc' := 25) rfl rfl rfl ?_
        refine zs_iald hΓ dX5_find_25 (pc' := 26) rfl (tw_a10 hTw) (by omega) (by omega) ?_
        refine zs_iload_n hΓ dX5_find_26 (pc' := 27) rfl rfl rfl ?_
        refine zs_icmpne hΓ dX5_find_27 (tgt := 32) (by decide) (pc' := 30) rfl (fun c_27 => ?_) (fun c_27 => ?_)
        · refine zs_iinc hΓ dX5_find_32 (pc' := 35) rfl (L' := [some (zR _), some (zI _), some (zI _), some (zI _)]) rfl (by unfold inI; omega) (by decide) rfl rfl ?_
          refine zs_goto hΓ dX5_find_35 (tgt := 5) (by decide) ?_
          exact ih (i + 1) (by omega) (fun j d1 d2 => by by_cases q : j = i - 16 * t; rw [q, show 16 * t + (i - 16 * t) = i by omega]; exact c_27; exact h3 j d1 (by omega)) (by omega)
        · refine zs_iload_n hΓ dX5_find_30 (pc' := 31) rfl rfl rfl ?_
          exact zs_iret hΓ dX5_find_31 rfl (by omega) (by omega) (⟨_, rfl, Or.inl ⟨i - 16 * t, by omega, by rw [show 16 * t + (i - 16 * t) = i by omega]; exact c_27, h3, by omega⟩, rfl⟩)
  refine zs_bipush hΓ dX5_find_0 (pc' := 2) rfl ⟨by decide, by decide⟩ ?_
  refine zs_iload_n hΓ dX5_find_2 (pc' := 3) rfl rfl rfl ?_
  refine zs_imul hΓ dX5_find_3 (pc' := 4) rfl (by unfold inI; omega) ?_
  refine zs_istore_n hΓ dX5_find_4 (pc' := 5) rfl (L' := [some (zR _), some (zI _), some (zI _), some (zI _)]) rfl (by decide) rfl rfl ?_
  exact lp 17 (16 * t) (by omega) (fun j _ _ => by omega) (by omega)
theorem con_X5_is (l : Launch) {h : zH} (hTw : TwT h) (c w : Int) (hc : 0 ≤ c ∧ c < 256) (hw : 0 ≤ w ∧ w < 8) : Con l mX5_is 4 0 0 [zR (some (1, 0)), zI c, zI w] h (rI fun x h' => x = iB (aFlag (fun w => cel (gI h (1, 5)) c w) (gI h (1, 0) 28) (gI h (1, 0) 29) w) ∧ h' = h) zNo := by
  refine Con.ofS (by decide +kernel) (Nat.le_of_ble_eq_true rfl) fun Γ hΓ hno hwf hav => ?_
  have hΓ : Ctx Γ l cX5_is RX5 "is" 3 (Option.some Jvm.ClassFile.FieldType.boolean) _ _ 4 _ _ := hΓ
  show SS Γ 0 [some (zR _), some (zI _), some (zI _)] [] _ 0 0
  refine zs_iload_n hΓ dX5_is_0 (pc' := 1) rfl rfl rfl ?_
  rcases (show w = 0 ∨ w = 1 ∨ w = 2 ∨ w = 3 ∨ w = 4 ∨ w = 5 ∨ w = 6 ∨ (w < 0 ∨ 6 < w) from by omega) with e_1 | e_1 | e_1 | e_1 | e_1 | e_1 | e_1 | e_1
  · refine zs_tabIn hΓ dX5_is_1 (off := 43) (tgt := 44) (by omega) (by omega) (by rw [e_1]; rfl) (by decide) ?_
    refine zs_aload_n hΓ dX5_is_44 (pc' := 45) rfl rfl rfl ?_
    refine zs_iload_n hΓ dX5_is_45 (pc' := 46) rfl rfl rfl ?_
    refine zs_iconst hΓ dX5_is_46 (pc' := 47) rfl ⟨by decide, by decide⟩ ?_
    refine zs_callVIP hΓ dX5_is_47 (pc' := 50) rfl kX5_136 (con_X5_of l hTw c 0 hc (by decide)) (tw_t hTw) rfl rfl rfl (Nat.le_of_ble_eq_true rfl) (by omega) (by decide) (by omega) (by omega) ?_ (fun _ _ q _ => False.elim q)
    refine zs_ifne hΓ dX5_is_50 (tgt := 57) (by decide) (pc' := 53) rfl (fun c_50 => ?_) (fun c_50 => ?_)
    · refine zs_iconst hΓ dX5_is_57 (pc' := 58) rfl ⟨by decide, by decide⟩ ?_
      exact zs_zret hΓ dX5_is_58 rfl (by first | omega | exact iB_01 _) (by omega) (by omega) (by rw [e_1]; exact ⟨_, rfl, iB_f (fun z => c_50 (aFlag_0.mp z)), rfl⟩)
    · refine zs_iconst hΓ dX5_is_53 (pc' := 54) rfl ⟨by decide, by decide⟩ ?_
      refine zs_goto hΓ dX5_is_54 (tgt := 58) (by decide) ?_
      exact zs_zret hΓ dX5_is_58 rfl (by first | omega | exact iB_01 _) (by omega) (by omega) (by rw [e_1]; exact ⟨_, rfl, iB_t (aFlag_0.mpr c_50), rfl⟩)
  · refine zs_tabIn hΓ dX5_is_1 (off := 58) (tgt := 59) (by omega) (by omega) (by rw [e_1]; rfl) (by decide) ?_
    refine zs_aload_n hΓ dX5_is_59 (pc' := 60) rfl rfl rfl ?_
    refine zs_iload_n hΓ dX5_is_60 (pc' := 61) rfl rfl rfl ?_
    refine zs_iconst hΓ dX5_is_61 (pc' := 62) rfl ⟨by decide, by decide⟩ ?_
    refine zs_callVIP hΓ dX5_is_62 (pc' := 65) rfl kX5_136 (con_X5_of l hTw c 0 hc (by decide)) (tw_t hTw) rfl rfl rfl (Nat.le_of_ble_eq_true rfl) (by omega) (by decide) (by omega) (by omega) ?_ (fun _ _ q _ => False.elim q)
    refine zs_iconst hΓ dX5_is_65 (pc' := 66) rfl ⟨by decide, by decide⟩ ?_
    refine zs_icmpne hΓ dX5_is_66 (tgt := 73) (by decide) (pc' := 69) rfl (fun c_66 => ?_) (fun c_66 => ?_)
    · refine zs_iconst hΓ dX5_is_73 (pc' := 74) rfl ⟨by decide, by decide⟩ ?_
      exact zs_zret hΓ dX5_is_74 rfl (by first | omega | exact iB_01 _) (by omega) (by omega) (by rw [e_1]; exact ⟨_, rfl, iB_f (fun z => c_66 (aFlag_1.mp z)), rfl⟩)
    · refine zs_iconst hΓ dX5_is_69 (pc' := 70) rfl ⟨by decide, by decide⟩ ?_
      refine zs_goto hΓ dX5_is_70 (tgt := 74) (by decide) ?_
      exact zs_zret hΓ dX5_is_74 rfl (by first | omega | exact iB_01 _) (by omega) (by omega) (by rw [e_1]; exact ⟨_, rfl, iB_t (aFlag_1.mpr c_66), rfl⟩)
  · refine zs_tabIn hΓ dX5_is_1 (off := 74) (tgt := 75) (by omega) (by omega) (by rw [e_1]; rfl) (by decide) ?_
    refine zs_aload_n hΓ dX5_is_75 (pc' := 76) rfl rfl rfl ?_
    refine zs_iload_n hΓ dX5_is_76 (pc' := 77) rfl rfl rfl ?_
    refine zs_iconst hΓ dX5_is_77 (pc' := 78) rfl ⟨by decide, by decide⟩ ?_
    refine zs_callVIP hΓ dX5_is_78 (pc' := 81) rfl kX5_136 (con_X5_of l hTw c 0 hc (by decide)) (tw_t hTw) rfl rfl rfl (Nat.le_of_ble_eq_true rfl) (by omega) (by decide) (by omega) (by omega) ?_ (fun _ _ q _ => False.elim q)
    refine zs_iconst hΓ dX5_is_81 (pc' := 82) rfl ⟨by decide, by decide⟩ ?_
    refine zs_icmpne hΓ dX5_is_82 (tgt := 89) (by decide) (pc' := 85) rfl (fun c_82 => ?_) (fun c_82 => ?_)
    · refine zs_iconst hΓ dX5_is_89 (pc' := 90) rfl ⟨by decide, by decide⟩ ?_
      exact zs_zret hΓ dX5_is_90 rfl (by first | omega | exact iB_01 _) (by omega) (by omega) (by rw [e_1]; exact ⟨_, rfl, iB_f (fun z => c_82 (aFlag_2.mp z)), rfl⟩)
    · refine zs_iconst hΓ dX5_is_85 (pc' := 86) rfl ⟨by decide, by decide⟩ ?_
      refine zs_goto hΓ dX5_is_86 (tgt := 90) (by decide) ?_
      exact zs_zret hΓ dX5_is_90 rfl (by first | omega | exact iB_01 _) (by omega) (by omega) (by rw [e_1]; exact ⟨_, rfl, iB_t (aFlag_2.mpr c_82), rfl⟩)
  · refine zs_tabIn hΓ dX5_is_1 (off := 90) (tgt := 91) (by omega) (by omega) (by rw [e_1]; rfl) (by decide) ?_
    refine zs_aload_n hΓ dX5_is_91 (pc' := 92) rfl rfl rfl ?_
    refine zs_iload_n hΓ dX5_is_92 (pc' := 93) rfl rfl rfl ?_
    refine zs_iconst hΓ dX5_is_93 (pc' := 94) rfl ⟨by decide, by decide⟩ ?_
    refine zs_callVIP hΓ dX5_is_94 (pc' := 97) rfl kX5_136 (con_X5_of l hTw c 0 hc (by decide)) (tw_t hTw) rfl rfl rfl (Nat.le_of_ble_eq_true rfl) (by omega) (by decide) (by omega) (by omega) ?_ (fun _ _ q _ => False.elim q)
    refine zs_iconst hΓ dX5_is_97 (pc' := 98) rfl ⟨by decide, by decide⟩ ?_
    refine zs_icmpne hΓ dX5_is_98 (tgt := 105) (by decide) (pc' := 101) rfl (fun c_98 => ?_) (fun c_98 => ?_)
    · refine zs_iconst hΓ dX5_is_105 (pc' := 106) rfl ⟨by decide, by decide⟩ ?_
      exact zs_zret hΓ dX5_is_106 rfl (by first | omega | exact iB_01 _) (by omega) (by omega) (by rw [e_1]; exact ⟨_, rfl, iB_f (fun z => c_98 (aFlag_3.mp z)), rfl⟩)
    · refine zs_iconst hΓ dX5_is_101 (pc' := 102) rfl ⟨by decide, by decide⟩ ?_
      refine zs_goto hΓ dX5_is_102 (tgt := 106) (by decide) ?_
      exact zs_zret hΓ dX5_is_106 rfl (by first | omega | exact iB_01 _) (by omega) (by omega) (by rw [e_1]; exact ⟨_, rfl, iB_t (aFlag_3.mpr c_98), rfl⟩)
  · refine zs_tabIn hΓ dX5_is_1 (off := 106) (tgt := 107) (by omega) (by omega) (by rw [e_1]; rfl) (by decide) ?_
    refine zs_aload_n hΓ dX5_is_107 (pc' := 108) rfl rfl rfl ?_
    refine zs_iload_n hΓ dX5_is_108 (pc' := 109) rfl rfl rfl ?_
    refine zs_iconst hΓ dX5_is_109 (pc' := 110) rfl ⟨by decide, by decide⟩ ?_
    refine zs_callVIP hΓ dX5_is_110 (pc' := 113) rfl kX5_136 (con_X5_of l hTw c 0 hc (by decide)) (tw_t hTw) rfl rfl rfl (Nat.le_of_ble_eq_true rfl) (by omega) (by decide) (by omega) (by omega) ?_ (fun _ _ q _ => False.elim q)
    refine zs_iconst hΓ dX5_is_113 (pc' := 114) rfl ⟨by decide, by decide⟩ ?_
    refine zs_icmpne hΓ dX5_is_114 (tgt := 121) (by decide) (pc' := 117) rfl (fun c_114 => ?_) (fun c_114 => ?_)
    · refine zs_iconst hΓ dX5_is_121 (pc' := 122) rfl ⟨by decide, by decide⟩ ?_
      exact zs_zret hΓ dX5_is_122 rfl (by first | omega | exact iB_01 _) (by omega) (by omega) (by rw [e_1]; exact ⟨_, rfl, iB_f (fun z => c_114 (aFlag_4.mp z)), rfl⟩)
    · refine zs_iconst hΓ dX5_is_117 (pc' := 118) rfl ⟨by decide, by decide⟩ ?_
      refine zs_goto hΓ dX5_is_118 (tgt := 122) (by decide) ?_
      exact zs_zret hΓ dX5_is_122 rfl (by first | omega | exact iB_01 _) (by omega) (by omega) (by rw [e_1]; exact ⟨_, rfl, iB_t (aFlag_4.mpr c_114), rfl⟩)
  · refine zs_tabIn hΓ dX5_is_1 (off := 122) (tgt := 123) (by omega) (by omega) (by rw [e_1]; rfl) (by decide) ?_
    refine zs_aload_n hΓ dX5_is_123 (pc' := 124) rfl rfl rfl ?_
    refine zs_iload_n hΓ dX5_is_124 (pc' := 125) rfl rfl rfl ?_
    refine zs_iconst hΓ dX5_is_125 (pc' := 126) rfl ⟨by decide, by decide⟩ ?_
    refine zs_callVIP hΓ dX5_is_126 (pc' := 129) rfl kX5_136 (con_X5_of l hTw c 1 hc (by decide)) (tw_t hTw) rfl rfl rfl (Nat.le_of_ble_eq_true rfl) (by omega) (by decide) (by omega) (by omega) ?_ (fun _ _ q _ => False.elim q)
    refine zs_iconst hΓ dX5_is_129 (pc' := 130) rfl ⟨by decide, by decide⟩ ?_
    refine zs_icmpne hΓ dX5_is_130 (tgt := 137) (by decide) (pc' := 133) rfl (fun c_130 => ?_) (fun c_130 => ?_)
    · refine zs_iconst hΓ dX5_is_137 (pc' := 138) rfl ⟨by decide, by decide⟩ ?_
      exact zs_zret hΓ dX5_is_138 rfl (by first | omega | exact iB_01 _) (by omega) (by omega) (by rw [e_1]; exact ⟨_, rfl, iB_f (fun z => c_130 (aFlag_5.mp z)), rfl⟩)
    · refine zs_iconst hΓ dX5_is_133 (pc' := 134) rfl ⟨by decide, by decide⟩ ?_
      refine zs_goto hΓ dX5_is_134 (tgt := 138) (by decide) ?_
      exact zs_zret hΓ dX5_is_138 rfl (by first | omega | exact iB_01 _) (by omega) (by omega) (by rw [e_1]; exact ⟨_, rfl, iB_t (aFlag_5.mpr c_130), rfl⟩)
  · refine zs_tabIn hΓ dX5_is_1 (off := 138) (tgt := 139) (by omega) (by omega) (by rw [e_1]; rfl) (by decide) ?_
    refine zs_aload_n hΓ dX5_is_139 (pc' := 140) rfl rfl rfl ?_
    refine zs_iload_n hΓ dX5_is_140 (pc' := 141) rfl rfl rfl ?_
    refine zs_callVIP hΓ dX5_is_141 (pc' := 144) rfl kX5_331 (con_X5_isMuddy l hTw c hc) (tw_t hTw) rfl rfl rfl (Nat.le_of_ble_eq_true rfl) (by omega) (by decide) (by omega) (by omega) ?_ (fun _ _ q _ => False.elim q)
    exact zs_zret hΓ dX5_is_144 rfl (by first | omega | exact iB_01 _) (by omega) (by omega) (by rw [e_1]; exact ⟨_, rfl, iB_iff aFlag_6.symm, rfl⟩)
  · refine zs_tabOut hΓ dX5_is_1 (tgt := 145) e_1 (by decide) ?_
    refine zs_aload_n hΓ dX5_is_145 (pc' := 146) rfl rfl rfl ?_
    refine zs_iload_n hΓ dX5_is_146 (pc' := 147) rfl rfl rfl ?_
    refine zs_callVIP hΓ dX5_is_147 (pc' := 150) rfl kX5_140 (con_X5_isWorn l hTw c hc) (tw_t hTw) rfl rfl rfl (Nat.le_of_ble_eq_true rfl) (by omega) (by decide) (by omega) (by omega) ?_ (fun _ _ q _ => False.elim q)
    exact zs_zret hΓ dX5_is_150 rfl (by first | omega | exact iB_01 _) (by omega) (by omega) (by rw [show w = 7 by omega]; exact ⟨_, rfl, iB_iff aFlag_7.symm, rfl⟩)
theorem con_X5_holds (l : Launch) {h : zH} (hTw : TwT h) (t x c : Int) (k9 : Nat) (q : zLn) (ht : 0 ≤ t ∧ t < 8) (hk9 : k9 < 16) (hx : x = 16 * t + k9) (hL : LnR h t x q) (hc : 0 ≤ c ∧ c < 256) : Con l mX5_holds 5 0 0 [zR (some (1, 0)), zI x, zI c] h (rI fun r h' => r = iB (cHolds (aTrue (fun w => cel (gI h (1, 5)) c w) (gI h (1, 0) 28) (gI h (1, 0) 29)) q.2.2.2) ∧ Same (fun a _ => a = (1, 33)) h h') zNo := by
  refine Con.ofS (by decide +kernel) (Nat.le_of_ble_eq_true rfl) fun Γ hΓ hno hwf hav => ?_
  have hΓ : Ctx Γ l cX5_holds RX5 "holds" 8 (Option.some Jvm.ClassFile.FieldType.boolean) _ _ 5 _ _ := hΓ
  show SS Γ 0 [some (zR _), some (zI _), some (zI _), none, none, none, none, none] [] _ 0 0
  have ex : x / 16 = t := by omega
  have hx9 : 0 ≤ x ∧ x < 128 := by omega
  obtain ⟨l1, l2, l3, ⟨l4, l5, l6⟩, l7, l8⟩ := hL
  generalize hA : aTrue (fun w => cel (gI h (1, 5)) c w) (gI h (1, 0) 28) (gI h (1, 0) 29) = A
  generalize hF : gI h (1, 13) x = F at *
  generalize hE : gI h (1, 14) x = E at *
  have lp : ∀ (rem : List zStep) (st : List Prop) (j : Nat) (h' : zH), Same (fun a _ => a = (1, 33)) h h' → (∀ (i : Nat) (s : zStep), rem[i]? = some s → q.2.2.2[j + i]? = some s) → (j : Int) + rem.length = q.2.2.2.length → wfC rem st.length → TrR h' st → rRun A q.2.2.2 [] = rRun A rem st → q.2.2.2 ≠ [] → st.length ≤ 60 → SS Γ 39 [some (zR (some (1, 0))), some (zI x), some (zI c), some (zI t), some (zI st.length), some (zI (200 * t + F + j)), none, none] [] h' 0 0 := by
    intro rem
    induction rem with
    | nil =>
      intro st j h' hS hrem hj hwf9 hTr hrun hne h60
      have hTw := hTw.same hS
      have hwf9 : st.length = 1 := hwf9
      have e14 : gI h' (1, 14) x = E := by rw [hS.2.2 _ _ (n1 (by decide))]; exact hE
      obtain ⟨p, rfl⟩ := List.length_eq_one_iff.mp hwf9
      have htop := hTr.top
      refine zs_iload hΓ dX5_holds_39 (pc' := 41) rfl rfl ?_
      refine zs_sipush hΓ dX5_holds_41 (pc' := 44) rfl ⟨by decide, by decide⟩ ?_
      refine zs_iload_n hΓ dX5_holds_44 (pc' := 45) rfl rfl rfl ?_
      refine zs_imul hΓ dX5_holds_45 (pc' := 46) rfl (by unfold inI; omega) ?_
      refine zs_aload_n hΓ dX5_holds_46 (pc' := 47) rfl rfl rfl ?_
      refine zs_getrE hΓ dX5_holds_47 (pc' := 50) rfl fX5_59 (i9 := 14) rfl rfl (tw_t hTw) (tw_p14 hTw) ?_
      refine zs_iload_n hΓ dX5_holds_50 (pc' := 51) rfl rfl rfl ?_
      refine zs_iald hΓ dX5_holds_51 (pc' := 52) rfl (tw_a14 hTw) (by omega) (by omega) ?_
      refine zs_iadd hΓ dX5_holds_52 (pc' := 53) rfl (by unfold inI; omega) ?_
      refine zs_eqI (y := 200 * t + E) (by rw [e14]) ?_
      refine zs_icmpge hΓ dX5_holds_53 (tgt := 360) (by decide) (pc' := 56) rfl (fun c_53 => ?_) (fun c_53 => False.elim (absurd c_53 (by rw [List.length_nil] at hj; omega)))
      refine zs_aload_n hΓ dX5_holds_360 (pc' := 361) rfl rfl rfl ?_
      refine zs_getrE hΓ dX5_holds_361 (pc' := 364) rfl fX5_83 (i9 := 33) rfl rfl (tw_t hTw) (tw_p33 hTw) ?_
      refine zs_iconst hΓ dX5_holds_364 (pc' := 365) rfl ⟨by decide, by decide⟩ ?_
      refine zs_zald hΓ dX5_holds_365 (pc' := 366) rfl (tw_a33 hTw) (by omega) (by omega) ?_
      refine zs_eqI (y := iB p) htop ?_
      exact zs_zret hΓ dX5_holds_366 rfl (by first | omega | exact iB_01 _) (by omega) (by omega) (⟨_, rfl, iB_iff (by rw [hA]; unfold cHolds; rw [hrun]; exact ⟨fun z => Or.inr z, fun z => z.elim (fun e => absurd e hne) id⟩), hS⟩)
    | cons s rem ih =>
      intro st j h' hS hrem hj hwf9 hTr hrun hne h60
      have hTw := hTw.same hS
      have e14 : gI h' (1, 14) x = E := by rw [hS.2.2 _ _ (n1 (by decide))]; exact hE
      obtain ⟨s1, s2, s3⟩ := l7 j s (hrem 0 s rfl)
      have e15 : gI h' (1, 15) (200 * t + F + j) = s.1 := by rw [hS.2.2 _ _ (n1 (by decide))]; exact s1
      have e16 : gI h' (1, 16) (200 * t + F + j) = s.2.1 := by rw [hS.2.2 _ _ (n1 (by decide))]; exact s2
      have e17 : gI h' (1, 17) (200 * t + F + j) = s.2.2 := by rw [hS.2.2 _ _ (n1 (by decide))]; exact s3
      have r5 : gI h' (1, 5) = gI h (1, 5) := hS.row fun _ => n1 (by decide)
      have r28 : gI h' (1, 0) 28 = gI h (1, 0) 28 := hS.2.2 _ _ (n1 (by decide))
      have r29 : gI h' (1, 0) 29 = gI h (1, 0) 29 := hS.2.2 _ _ (n1 (by decide))
      rw [List.length_cons] at hj
      have ih9 : ∀ (st : List Prop) (h' : zH), Same (fun a _ => a = (1, 33)) h h' → wfC rem st.length → TrR h' st → rRun A q.2.2.2 [] = rRun A rem st → st.length ≤ 60 → SS Γ 39 [some (zR (some (1, 0))), some (zI x), some (zI c), some (zI t), some (zI st.length), some (zI (200 * t + F + j + 1)), none, none] [] h' 0 0 := by
        intro st h' a1 a2 a3 a4 a5
        have := ih st (j + 1) h' a1 (fun i s hi => by have := hrem (i + 1) s hi; rw [show j + 1 + i = j + (i + 1) by omega]; exact this) (by omega) a2 a3 a4 hne a5
        rw [show 200 * t + F + ((j + 1 : Nat) : Int) = 200 * t + F + j + 1 by omega] at this
        exact this
      rcases hwf9 with ⟨w1, w2, w3⟩ | ⟨w1, w2, w3⟩ | ⟨w1, w2, w3⟩
      · obtain ⟨p, st, rfl⟩ : ∃ p st', st = p :: st' := by cases st with | nil => exact absurd w2 (by decide) | cons p st' => exact ⟨p, st', rfl⟩
        have htop := hTr.top
        have hrS : rSt A (p :: st) s = (¬ p) :: st := by unfold rSt; rw [if_pos w1]
        have hlen : ((p :: st).length : Int) - 1 = st.length := by rw [List.length_cons]; omega
        rw [List.length_cons] at h60
        refine zs_iload hΓ dX5_holds_39 (pc' := 41) rfl rfl ?_
        refine zs_sipush hΓ dX5_holds_41 (pc' := 44) rfl ⟨by decide, by decide⟩ ?_
        refine zs_iload_n hΓ dX5_holds_44 (pc' := 45) rfl rfl rfl ?_
        refine zs_imul hΓ dX5_holds_45 (pc' := 46) rfl (by unfold inI; omega) ?_
        refine zs_aload_n hΓ dX5_holds_46 (pc' := 47) rfl rfl rfl ?_
        refine zs_getrE hΓ dX5_holds_47 (pc' := 50) rfl fX5_59 (i9 := 14) rfl rfl (tw_t hTw) (tw_p14 hTw) ?_
        refine zs_iload_n hΓ dX5_holds_50 (pc' := 51) rfl rfl rfl ?_
        refine zs_iald hΓ dX5_holds_51 (pc' := 52) rfl (tw_a14 hTw) (by omega) (by omega) ?_
        refine zs_iadd hΓ dX5_holds_52 (pc' := 53) rfl (by unfold inI; omega) ?_
        refine zs_eqI (y := 200 * t + E) (by rw [e14]) ?_
        refine zs_icmpge hΓ dX5_holds_53 (tgt := 360) (by decide) (pc' := 56) rfl (fun c_53 => False.elim (absurd c_53 (by omega))) (fun c_53 => ?_)
        refine zs_aload_n hΓ dX5_holds_56 (pc' := 57) rfl rfl rfl ?_
        refine zs_getrE hΓ dX5_holds_57 (pc' := 60) rfl fX5_62 (i9 := 15) rfl rfl (tw_t hTw) (tw_p15 hTw) ?_
        refine zs_iload hΓ dX5_holds_60 (pc' := 62) rfl rfl ?_
        refine zs_iald hΓ dX5_holds_62 (pc' := 63) rfl (tw_a15 hTw) (by omega) (by omega) ?_
        refine zs_eqI (y := s.1) e15 ?_
        refine zs_istore hΓ dX5_holds_63 (pc' := 65) rfl (L' := [some (zR _), some (zI _), some (zI _), some (zI _), some (zI _), some (zI _), some (zI _), none]) (by decide) rfl rfl ?_
        refine zs_iload hΓ dX5_holds_65 (pc' := 67) rfl rfl ?_
        refine zs_bipush hΓ dX5_holds_67 (pc' := 69) rfl ⟨by decide, by decide⟩ ?_
        refine zs_icmpne hΓ dX5_holds_69 (tgt := 101) (by decide) (pc' := 72) rfl (fun c_69 => False.elim (c_69 w1)) (fun c_69 => ?_)
        refine zs_aload_n hΓ dX5_holds_72 (pc' := 73) rfl rfl rfl ?_
        refine zs_getrE hΓ dX5_holds_73 (pc' := 76) rfl fX5_83 (i9 := 33) rfl rfl (tw_t hTw) (tw_p33 hTw) ?_
        refine zs_iload hΓ dX5_holds_76 (pc' := 78) rfl rfl ?_
        refine zs_iconst hΓ dX5_holds_78 (pc' := 79) rfl ⟨by decide, by decide⟩ ?_
        refine zs_isub hΓ dX5_holds_79 (pc' := 80) rfl (by unfold inI; omega) ?_
        rw [hlen]
        refine zs_aload_n hΓ dX5_holds_80 (pc' := 81) rfl rfl rfl ?_
        refine zs_getrE hΓ dX5_holds_81 (pc' := 84) rfl fX5_83 (i9 := 33) rfl rfl (tw_t hTw) (tw_p33 hTw) ?_
        refine zs_iload hΓ dX5_holds_84 (pc' := 86) rfl rfl ?_
        refine zs_iconst hΓ dX5_holds_86 (pc' := 87) rfl ⟨by decide, by decide⟩ ?_
        refine zs_isub hΓ dX5_holds_87 (pc' := 88) rfl (by unfold inI; omega) ?_
        rw [hlen]
        refine zs_zald hΓ dX5_holds_88 (pc' := 89) rfl (tw_a33 hTw) (by omega) (by omega) ?_
        refine zs_eqI (y := iB p) htop ?_
        refine zs_ifne hΓ dX5_holds_89 (tgt := 96) (by decide) (pc' := 92) rfl (fun c_89 => ?_) (fun c_89 => ?_)
        · refine zs_iconst hΓ dX5_holds_96 (pc' := 97) rfl ⟨by decide, by decide⟩ ?_
          refine zs_eqI (y := iB (¬ p)) (iB_f (fun z => z (iB_ne c_89))) ?_
          refine zs_zast hΓ dX5_holds_97 (pc' := 98) rfl (tw_a33 hTw) (show (0 : Int) ≤ 1 by decide) (by omega) (by omega) (iB_01 _) ?_
          refine zs_goto hΓ dX5_holds_98 (tgt := 354) (by decide) ?_
          refine zs_iinc hΓ dX5_holds_354 (pc' := 357) rfl (L' := [some (zR _), some (zI _), some (zI _), some (zI _), some (zI _), some (zI _), some (zI _), none]) rfl (by unfold inI; omega) (by decide) rfl rfl ?_
          refine zs_goto hΓ dX5_holds_357 (tgt := 39) (by decide) ?_
          refine zs_drop 6 (L' := [some (zR _), some (zI _), some (zI _), some (zI _), some (zI _), some (zI _), none, none]) rfl ?_
          exact ih9 ((¬ p) :: st) _ (hS.set rfl) w3 (hTr.tl.push _) (by rw [hrun]; show rRun A rem (rSt A (p :: st) s) = _; rw [hrS]) (by rw [List.length_cons]; omega)
        · refine zs_iconst hΓ dX5_holds_92 (pc' := 93) rfl ⟨by decide, by decide⟩ ?_
          refine zs_goto hΓ dX5_holds_93 (tgt := 97) (by decide) ?_
          refine zs_eqI (y := iB (¬ p)) (iB_t (iB_eq c_89)) ?_
          refine zs_zast hΓ dX5_holds_97 (pc' := 98) rfl (tw_a33 hTw) (show (0 : Int) ≤ 1 by decide) (by omega) (by omega) (iB_01 _) ?_
          refine zs_goto hΓ dX5_holds_98 (tgt := 354) (by decide) ?_
          refine zs_iinc hΓ dX5_holds_354 (pc' := 357) rfl (L' := [some (zR _), some (zI _), some (zI _), some (zI _), some (zI _), some (zI _), some (zI _), none]) rfl (by unfold inI; omega) (by decide) rfl rfl ?_
          refine zs_goto hΓ dX5_holds_357 (tgt := 39) (by decide) ?_
          refine zs_drop 6 (L' := [some (zR _), some (zI _), some (zI _), some (zI _), some (zI _), some (zI _), none, none]) rfl ?_
          exact ih9 ((¬ p) :: st) _ (hS.set rfl) w3 (hTr.tl.push _) (by rw [hrun]; show rRun A rem (rSt A (p :: st) s) = _; rw [hrS]) (by rw [List.length_cons]; omega)
      · obtain ⟨y, x9, st, rfl⟩ : ∃ y x st', st = y :: x :: st' := by
          match st, w2 with
          | [], w2 => exact absurd w2 (by decide)
          | [_], w2 => exact absurd w2 (by simp)
          | y :: x :: st', _ => exact ⟨y, x, st', rfl⟩
        have hx2 := hTr.tl.top
        have hy2 : gI h' (1, 33) ((st.length : Int) + 1) = iB y := by have := hTr.top; rw [List.length_cons] at this; exact this
        have hl1 : ((y :: x9 :: st).length : Int) + -1 = st.length + 1 := by rw [List.length_cons, List.length_cons]; omega
        have hl2 : (st.length : Int) + 1 - 1 = st.length := by omega
        have hl3 : (st.length : Int) + 1 = (((x9 ∧ y) :: st).length : Int) := by rw [List.length_cons]; omega
        rw [List.length_cons, List.length_cons] at h60
        rcases w1 with w1 | w1
        · skip
          have hrS : rSt A (y :: x9 :: st) s = (x9 ∧ y) :: st := by unfold rSt; rw [if_neg (by omega), if_pos w1]
          refine zs_iload hΓ dX5_holds_39 (pc' := 41) rfl rfl ?_
          refine zs_sipush hΓ dX5_holds_41 (pc' := 44) rfl ⟨by decide, by decide⟩ ?_
          refine zs_iload_n hΓ dX5_holds_44 (pc' := 45) rfl rfl rfl ?_
          refine zs_imul hΓ dX5_holds_45 (pc' := 46) rfl (by unfold inI; omega) ?_
          refine zs_aload_n hΓ dX5_holds_46 (pc' := 47) rfl rfl rfl ?_
          refine zs_getrE hΓ dX5_holds_47 (pc' := 50) rfl fX5_59 (i9 := 14) rfl rfl (tw_t hTw) (tw_p14 hTw) ?_
          refine zs_iload_n hΓ dX5_holds_50 (pc' := 51) rfl rfl rfl ?_
          refine zs_iald hΓ dX5_holds_51 (pc' := 52) rfl (tw_a14 hTw) (by omega) (by omega) ?_
          refine zs_iadd hΓ dX5_holds_52 (pc' := 53) rfl (by unfold inI; omega) ?_
          refine zs_eqI (y := 200 * t + E) (by rw [e14]) ?_
          refine zs_icmpge hΓ dX5_holds_53 (tgt := 360) (by decide) (pc' := 56) rfl (fun c_53 => False.elim (absurd c_53 (by omega))) (fun c_53 => ?_)
          refine zs_aload_n hΓ dX5_holds_56 (pc' := 57) rfl rfl rfl ?_
          refine zs_getrE hΓ dX5_holds_57 (pc' := 60) rfl fX5_62 (i9 := 15) rfl rfl (tw_t hTw) (tw_p15 hTw) ?_
          refine zs_iload hΓ dX5_holds_60 (pc' := 62) rfl rfl ?_
          refine zs_iald hΓ dX5_holds_62 (pc' := 63) rfl (tw_a15 hTw) (by omega) (by omega) ?_
          refine zs_eqI (y := s.1) e15 ?_
          refine zs_istore hΓ dX5_holds_63 (pc' := 65) rfl (L' := [some (zR _), some (zI _), some (zI _), some (zI _), some (zI _), some (zI _), some (zI _), none]) (by decide) rfl rfl ?_
          refine zs_iload hΓ dX5_holds_65 (pc' := 67) rfl rfl ?_
          refine zs_bipush hΓ dX5_holds_67 (pc' := 69) rfl ⟨by decide, by decide⟩ ?_
          refine zs_icmpne hΓ dX5_holds_69 (tgt := 101) (by decide) (pc' := 72) rfl (fun c_69 => ?_) (fun c_69 => False.elim (by omega))
          refine zs_iload hΓ dX5_holds_101 (pc' := 103) rfl rfl ?_
          refine zs_bipush hΓ dX5_holds_103 (pc' := 105) rfl ⟨by decide, by decide⟩ ?_
          refine zs_icmpeq hΓ dX5_holds_105 (tgt := 115) (by decide) (pc' := 108) rfl (fun c_105 => ?_) (fun c_105 => False.elim (by omega))
          refine zs_iinc hΓ dX5_holds_115 (pc' := 118) rfl (L' := [some (zR _), some (zI _), some (zI _), some (zI _), some (zI _), some (zI _), some (zI _), none]) rfl (by unfold inI; omega) (by decide) rfl rfl ?_
          rw [hl1]
          refine zs_aload_n hΓ dX5_holds_118 (pc' := 119) rfl rfl rfl ?_
          refine zs_getrE hΓ dX5_holds_119 (pc' := 122) rfl fX5_83 (i9 := 33) rfl rfl (tw_t hTw) (tw_p33 hTw) ?_
          refine zs_iload hΓ dX5_holds_122 (pc' := 124) rfl rfl ?_
          refine zs_iconst hΓ dX5_holds_124 (pc' := 125) rfl ⟨by decide, by decide⟩ ?_
          refine zs_isub hΓ dX5_holds_125 (pc' := 126) rfl (by unfold inI; omega) ?_
          rw [hl2]
          refine zs_iload hΓ dX5_holds_126 (pc' := 128) rfl rfl ?_
          refine zs_bipush hΓ dX5_holds_128 (pc' := 130) rfl ⟨by decide, by decide⟩ ?_
          refine zs_icmpne hΓ dX5_holds_130 (tgt := 163) (by decide) (pc' := 133) rfl (fun c_130 => False.elim (by omega)) (fun c_130 => ?_)
          refine zs_aload_n hΓ dX5_holds_133 (pc' := 134) rfl rfl rfl ?_
          refine zs_getrE hΓ dX5_holds_134 (pc' := 137) rfl fX5_83 (i9 := 33) rfl rfl (tw_t hTw) (tw_p33 hTw) ?_
          refine zs_iload hΓ dX5_holds_137 (pc' := 139) rfl rfl ?_
          refine zs_iconst hΓ dX5_holds_139 (pc' := 140) rfl ⟨by decide, by decide⟩ ?_
          refine zs_isub hΓ dX5_holds_140 (pc' := 141) rfl (by unfold inI; omega) ?_
          rw [hl2]
          refine zs_zald hΓ dX5_holds_141 (pc' := 142) rfl (tw_a33 hTw) (by omega) (by omega) ?_
          refine zs_eqI (y := iB x9) hx2 ?_
          refine zs_ifeq hΓ dX5_holds_142 (tgt := 159) (by decide) (pc' := 145) rfl (fun c_142 => ?_) (fun c_142 => ?_)
          · refine zs_iconst hΓ dX5_holds_159 (pc' := 160) rfl ⟨by decide, by decide⟩ ?_
            refine zs_goto hΓ dX5_holds_160 (tgt := 190) (by decide) ?_
            refine zs_eqI (y := iB (x9 ∧ y)) (iB_f (fun z => iB_eq c_142 z.1)) ?_
            refine zs_zast hΓ dX5_holds_190 (pc' := 191) rfl (tw_a33 hTw) (show (0 : Int) ≤ 1 by decide) (by omega) (by omega) (iB_01 _) ?_
            refine zs_goto hΓ dX5_holds_191 (tgt := 354) (by decide) ?_
            refine zs_iinc hΓ dX5_holds_354 (pc' := 357) rfl (L' := [some (zR _), some (zI _), some (zI _), some (zI _), some (zI _), some (zI _), some (zI _), none]) rfl (by unfold inI; omega) (by decide) rfl rfl ?_
            refine zs_goto hΓ dX5_holds_357 (tgt := 39) (by decide) ?_
            refine zs_drop 6 (L' := [some (zR _), some (zI _), some (zI _), some (zI _), some (zI _), some (zI _), none, none]) rfl ?_
            rw [hl3]; exact ih9 ((x9 ∧ y) :: st) _ (hS.set rfl) w3 (hTr.tl.tl.push _) (by rw [hrun]; show rRun A rem (rSt A (y :: x9 :: st) s) = _; rw [hrS]) (by rw [List.length_cons]; omega)
          · refine zs_aload_n hΓ dX5_holds_145 (pc' := 146) rfl rfl rfl ?_
            refine zs_getrE hΓ dX5_holds_146 (pc' := 149) rfl fX5_83 (i9 := 33) rfl rfl (tw_t hTw) (tw_p33 hTw) ?_
            refine zs_iload hΓ dX5_holds_149 (pc' := 151) rfl rfl ?_
            refine zs_zald hΓ dX5_holds_151 (pc' := 152) rfl (tw_a33 hTw) (by omega) (by omega) ?_
            refine zs_eqI (y := iB y) hy2 ?_
            refine zs_ifeq hΓ dX5_holds_152 (tgt := 159) (by decide) (pc' := 155) rfl (fun c_152 => ?_) (fun c_152 => ?_)
            · refine zs_iconst hΓ dX5_holds_159 (pc' := 160) rfl ⟨by decide, by decide⟩ ?_
              refine zs_goto hΓ dX5_holds_160 (tgt := 190) (by decide) ?_
              refine zs_eqI (y := iB (x9 ∧ y)) (iB_f (fun z => iB_eq c_152 z.2)) ?_
              refine zs_zast hΓ dX5_holds_190 (pc' := 191) rfl (tw_a33 hTw) (show (0 : Int) ≤ 1 by decide) (by omega) (by omega) (iB_01 _) ?_
              refine zs_goto hΓ dX5_holds_191 (tgt := 354) (by decide) ?_
              refine zs_iinc hΓ dX5_holds_354 (pc' := 357) rfl (L' := [some (zR _), some (zI _), some (zI _), some (zI _), some (zI _), some (zI _), some (zI _), none]) rfl (by unfold inI; omega) (by decide) rfl rfl ?_
              refine zs_goto hΓ dX5_holds_357 (tgt := 39) (by decide) ?_
              refine zs_drop 6 (L' := [some (zR _), some (zI _), some (zI _), some (zI _), some (zI _), some (zI _), none, none]) rfl ?_
              rw [hl3]; exact ih9 ((x9 ∧ y) :: st) _ (hS.set rfl) w3 (hTr.tl.tl.push _) (by rw [hrun]; show rRun A rem (rSt A (y :: x9 :: st) s) = _; rw [hrS]) (by rw [List.length_cons]; omega)
            · refine zs_iconst hΓ dX5_holds_155 (pc' := 156) rfl ⟨by decide, by decide⟩ ?_
              refine zs_goto hΓ dX5_holds_156 (tgt := 190) (by decide) ?_
              refine zs_eqI (y := iB (x9 ∧ y)) (iB_t ⟨iB_ne c_142, iB_ne c_152⟩) ?_
              refine zs_zast hΓ dX5_holds_190 (pc' := 191) rfl (tw_a33 hTw) (show (0 : Int) ≤ 1 by decide) (by omega) (by omega) (iB_01 _) ?_
              refine zs_goto hΓ dX5_holds_191 (tgt := 354) (by decide) ?_
              refine zs_iinc hΓ dX5_holds_354 (pc' := 357) rfl (L' := [some (zR _), some (zI _), some (zI _), some (zI _), some (zI _), some (zI _), some (zI _), none]) rfl (by unfold inI; omega) (by decide) rfl rfl ?_
              refine zs_goto hΓ dX5_holds_357 (tgt := 39) (by decide) ?_
              refine zs_drop 6 (L' := [some (zR _), some (zI _), some (zI _), some (zI _), some (zI _), some (zI _), none, none]) rfl ?_
              rw [hl3]; exact ih9 ((x9 ∧ y) :: st) _ (hS.set rfl) w3 (hTr.tl.tl.push _) (by rw [hrun]; show rRun A rem (rSt A (y :: x9 :: st) s) = _; rw [hrS]) (by rw [List.length_cons]; omega)
        · have hl3 : (st.length : Int) + 1 = (((x9 ∨ y) :: st).length : Int) := by rw [List.length_cons]; omega
          have hrS : rSt A (y :: x9 :: st) s = (x9 ∨ y) :: st := by unfold rSt; rw [if_neg (by omega), if_neg (by omega), if_pos w1]
          refine zs_iload hΓ dX5_holds_39 (pc' := 41) rfl rfl ?_
          refine zs_sipush hΓ dX5_holds_41 (pc' := 44) rfl ⟨by decide, by decide⟩ ?_
          refine zs_iload_n hΓ dX5_holds_44 (pc' := 45) rfl rfl rfl ?_
          refine zs_imul hΓ dX5_holds_45 (pc' := 46) rfl (by unfold inI; omega) ?_
          refine zs_aload_n hΓ dX5_holds_46 (pc' := 47) rfl rfl rfl ?_
          refine zs_getrE hΓ dX5_holds_47 (pc' := 50) rfl fX5_59 (i9 := 14) rfl rfl (tw_t hTw) (tw_p14 hTw) ?_
          refine zs_iload_n hΓ dX5_holds_50 (pc' := 51) rfl rfl rfl ?_
          refine zs_iald hΓ dX5_holds_51 (pc' := 52) rfl (tw_a14 hTw) (by omega) (by omega) ?_
          refine zs_iadd hΓ dX5_holds_52 (pc' := 53) rfl (by unfold inI; omega) ?_
          refine zs_eqI (y := 200 * t + E) (by rw [e14]) ?_
          refine zs_icmpge hΓ dX5_holds_53 (tgt := 360) (by decide) (pc' := 56) rfl (fun c_53 => False.elim (absurd c_53 (by omega))) (fun c_53 => ?_)
          refine zs_aload_n hΓ dX5_holds_56 (pc' := 57) rfl rfl rfl ?_
          refine zs_getrE hΓ dX5_holds_57 (pc' := 60) rfl fX5_62 (i9 := 15) rfl rfl (tw_t hTw) (tw_p15 hTw) ?_
          refine zs_iload hΓ dX5_holds_60 (pc' := 62) rfl rfl ?_
          refine zs_iald hΓ dX5_holds_62 (pc' := 63) rfl (tw_a15 hTw) (by omega) (by omega) ?_
          refine zs_eqI (y := s.1) e15 ?_
          refine zs_istore hΓ dX5_holds_63 (pc' := 65) rfl (L' := [some (zR _), some (zI _), some (zI _), some (zI _), some (zI _), some (zI _), some (zI _), none]) (by decide) rfl rfl ?_
          refine zs_iload hΓ dX5_holds_65 (pc' := 67) rfl rfl ?_
          refine zs_bipush hΓ dX5_holds_67 (pc' := 69) rfl ⟨by decide, by decide⟩ ?_
          refine zs_icmpne hΓ dX5_holds_69 (tgt := 101) (by decide) (pc' := 72) rfl (fun c_69 => ?_) (fun c_69 => False.elim (by omega))
          refine zs_iload hΓ dX5_holds_101 (pc' := 103) rfl rfl ?_
          refine zs_bipush hΓ dX5_holds_103 (pc' := 105) rfl ⟨by decide, by decide⟩ ?_
          refine zs_icmpeq hΓ dX5_holds_105 (tgt := 115) (by decide) (pc' := 108) rfl (fun c_105 => False.elim (by omega)) (fun c_105 => ?_)
          refine zs_iload hΓ dX5_holds_108 (pc' := 110) rfl rfl ?_
          refine zs_bipush hΓ dX5_holds_110 (pc' := 112) rfl ⟨by decide, by decide⟩ ?_
          refine zs_icmpne hΓ dX5_holds_112 (tgt := 194) (by decide) (pc' := 115) rfl (fun c_112 => False.elim (by omega)) (fun c_112 => ?_)
          refine zs_iinc hΓ dX5_holds_115 (pc' := 118) rfl (L' := [some (zR _), some (zI _), some (zI _), some (zI _), some (zI _), some (zI _), some (zI _), none]) rfl (by unfold inI; omega) (by decide) rfl rfl ?_
          rw [hl1]
          refine zs_aload_n hΓ dX5_holds_118 (pc' := 119) rfl rfl rfl ?_
          refine zs_getrE hΓ dX5_holds_119 (pc' := 122) rfl fX5_83 (i9 := 33) rfl rfl (tw_t hTw) (tw_p33 hTw) ?_
          refine zs_iload hΓ dX5_holds_122 (pc' := 124) rfl rfl ?_
          refine zs_iconst hΓ dX5_holds_124 (pc' := 125) rfl ⟨by decide, by decide⟩ ?_
          refine zs_isub hΓ dX5_holds_125 (pc' := 126) rfl (by unfold inI; omega) ?_
          rw [hl2]
          refine zs_iload hΓ dX5_holds_126 (pc' := 128) rfl rfl ?_
          refine zs_bipush hΓ dX5_holds_128 (pc' := 130) rfl ⟨by decide, by decide⟩ ?_
          refine zs_icmpne hΓ dX5_holds_130 (tgt := 163) (by decide) (pc' := 133) rfl (fun c_130 => ?_) (fun c_130 => False.elim (by omega))
          refine zs_aload_n hΓ dX5_holds_163 (pc' := 164) rfl rfl rfl ?_
          refine zs_getrE hΓ dX5_holds_164 (pc' := 167) rfl fX5_83 (i9 := 33) rfl rfl (tw_t hTw) (tw_p33 hTw) ?_
          refine zs_iload hΓ dX5_holds_167 (pc' := 169) rfl rfl ?_
          refine zs_iconst hΓ dX5_holds_169 (pc' := 170) rfl ⟨by decide, by decide⟩ ?_
          refine zs_isub hΓ dX5_holds_170 (pc' := 171) rfl (by unfold inI; omega) ?_
          rw [hl2]
          refine zs_zald hΓ dX5_holds_171 (pc' := 172) rfl (tw_a33 hTw) (by omega) (by omega) ?_
          refine zs_eqI (y := iB x9) hx2 ?_
          refine zs_ifne hΓ dX5_holds_172 (tgt := 185) (by decide) (pc' := 175) rfl (fun c_172 => ?_) (fun c_172 => ?_)
          · refine zs_iconst hΓ dX5_holds_185 (pc' := 186) rfl ⟨by decide, by decide⟩ ?_
            refine zs_goto hΓ dX5_holds_186 (tgt := 190) (by decide) ?_
            refine zs_eqI (y := iB (x9 ∨ y)) (iB_t (Or.inl (iB_ne c_172))) ?_
            refine zs_zast hΓ dX5_holds_190 (pc' := 191) rfl (tw_a33 hTw) (show (0 : Int) ≤ 1 by decide) (by omega) (by omega) (iB_01 _) ?_
            refine zs_goto hΓ dX5_holds_191 (tgt := 354) (by decide) ?_
            refine zs_iinc hΓ dX5_holds_354 (pc' := 357) rfl (L' := [some (zR _), some (zI _), some (zI _), some (zI _), some (zI _), some (zI _), some (zI _), none]) rfl (by unfold inI; omega) (by decide) rfl rfl ?_
            refine zs_goto hΓ dX5_holds_357 (tgt := 39) (by decide) ?_
            refine zs_drop 6 (L' := [some (zR _), some (zI _), some (zI _), some (zI _), some (zI _), some (zI _), none, none]) rfl ?_
            rw [hl3]; exact ih9 ((x9 ∨ y) :: st) _ (hS.set rfl) w3 (hTr.tl.tl.push _) (by rw [hrun]; show rRun A rem (rSt A (y :: x9 :: st) s) = _; rw [hrS]) (by rw [List.length_cons]; omega)
          · refine zs_aload_n hΓ dX5_holds_175 (pc' := 176) rfl rfl rfl ?_
            refine zs_getrE hΓ dX5_holds_176 (pc' := 179) rfl fX5_83 (i9 := 33) rfl rfl (tw_t hTw) (tw_p33 hTw) ?_
            refine zs_iload hΓ dX5_holds_179 (pc' := 181) rfl rfl ?_
            refine zs_zald hΓ dX5_holds_181 (pc' := 182) rfl (tw_a33 hTw) (by omega) (by omega) ?_
            refine zs_eqI (y := iB y) hy2 ?_
            refine zs_ifeq hΓ dX5_holds_182 (tgt := 189) (by decide) (pc' := 185) rfl (fun c_182 => ?_) (fun c_182 => ?_)
            · refine zs_iconst hΓ dX5_holds_189 (pc' := 190) rfl ⟨by decide, by decide⟩ ?_
              refine zs_eqI (y := iB (x9 ∨ y)) (iB_f (fun z => z.elim (iB_eq c_172) (iB_eq c_182))) ?_
              refine zs_zast hΓ dX5_holds_190 (pc' := 191) rfl (tw_a33 hTw) (show (0 : Int) ≤ 1 by decide) (by omega) (by omega) (iB_01 _) ?_
              refine zs_goto hΓ dX5_holds_191 (tgt := 354) (by decide) ?_
              refine zs_iinc hΓ dX5_holds_354 (pc' := 357) rfl (L' := [some (zR _), some (zI _), some (zI _), some (zI _), some (zI _), some (zI _), some (zI _), none]) rfl (by unfold inI; omega) (by decide) rfl rfl ?_
              refine zs_goto hΓ dX5_holds_357 (tgt := 39) (by decide) ?_
              refine zs_drop 6 (L' := [some (zR _), some (zI _), some (zI _), some (zI _), some (zI _), some (zI _), none, none]) rfl ?_
              rw [hl3]; exact ih9 ((x9 ∨ y) :: st) _ (hS.set rfl) w3 (hTr.tl.tl.push _) (by rw [hrun]; show rRun A rem (rSt A (y :: x9 :: st) s) = _; rw [hrS]) (by rw [List.length_cons]; omega)
            · refine zs_iconst hΓ dX5_holds_185 (pc' := 186) rfl ⟨by decide, by decide⟩ ?_
              refine zs_goto hΓ dX5_holds_186 (tgt := 190) (by decide) ?_
              refine zs_eqI (y := iB (x9 ∨ y)) (iB_t (Or.inr (iB_ne c_182))) ?_
              refine zs_zast hΓ dX5_holds_190 (pc' := 191) rfl (tw_a33 hTw) (show (0 : Int) ≤ 1 by decide) (by omega) (by omega) (iB_01 _) ?_
              refine zs_goto hΓ dX5_holds_191 (tgt := 354) (by decide) ?_
              refine zs_iinc hΓ dX5_holds_354 (pc' := 357) rfl (L' := [some (zR _), some (zI _), some (zI _), some (zI _), some (zI _), some (zI _), some (zI _), none]) rfl (by unfold inI; omega) (by decide) rfl rfl ?_
              refine zs_goto hΓ dX5_holds_357 (tgt := 39) (by decide) ?_
              refine zs_drop 6 (L' := [some (zR _), some (zI _), some (zI _), some (zI _), some (zI _), some (zI _), none, none]) rfl ?_
              rw [hl3]; exact ih9 ((x9 ∨ y) :: st) _ (hS.set rfl) w3 (hTr.tl.tl.push _) (by rw [hrun]; show rRun A rem (rSt A (y :: x9 :: st) s) = _; rw [hrS]) (by rw [List.length_cons]; omega)
      · have hrS : rSt A st s = A s :: st := by unfold rSt; rw [if_neg (by omega), if_neg (by omega), if_neg (by omega)]
        have hl3 : (st.length : Int) + 1 = ((A s :: st).length : Int) := by rw [List.length_cons]; omega
        by_cases hlo : s.1 < 8
        · skip
          refine zs_iload hΓ dX5_holds_39 (pc' := 41) rfl rfl ?_
          refine zs_sipush hΓ dX5_holds_41 (pc' := 44) rfl ⟨by decide, by decide⟩ ?_
          refine zs_iload_n hΓ dX5_holds_44 (pc' := 45) rfl rfl rfl ?_
          refine zs_imul hΓ dX5_holds_45 (pc' := 46) rfl (by unfold inI; omega) ?_
          refine zs_aload_n hΓ dX5_holds_46 (pc' := 47) rfl rfl rfl ?_
          refine zs_getrE hΓ dX5_holds_47 (pc' := 50) rfl fX5_59 (i9 := 14) rfl rfl (tw_t hTw) (tw_p14 hTw) ?_
          refine zs_iload_n hΓ dX5_holds_50 (pc' := 51) rfl rfl rfl ?_
          refine zs_iald hΓ dX5_holds_51 (pc' := 52) rfl (tw_a14 hTw) (by omega) (by omega) ?_
          refine zs_iadd hΓ dX5_holds_52 (pc' := 53) rfl (by unfold inI; omega) ?_
          refine zs_eqI (y := 200 * t + E) (by rw [e14]) ?_
          refine zs_icmpge hΓ dX5_holds_53 (tgt := 360) (by decide) (pc' := 56) rfl (fun c_53 => False.elim (absurd c_53 (by omega))) (fun c_53 => ?_)
          refine zs_aload_n hΓ dX5_holds_56 (pc' := 57) rfl rfl rfl ?_
          refine zs_getrE hΓ dX5_holds_57 (pc' := 60) rfl fX5_62 (i9 := 15) rfl rfl (tw_t hTw) (tw_p15 hTw) ?_
          refine zs_iload hΓ dX5_holds_60 (pc' := 62) rfl rfl ?_
          refine zs_iald hΓ dX5_holds_62 (pc' := 63) rfl (tw_a15 hTw) (by omega) (by omega) ?_
          refine zs_eqI (y := s.1) e15 ?_
          refine zs_istore hΓ dX5_holds_63 (pc' := 65) rfl (L' := [some (zR _), some (zI _), some (zI _), some (zI _), some (zI _), some (zI _), some (zI _), none]) (by decide) rfl rfl ?_
          refine zs_iload hΓ dX5_holds_65 (pc' := 67) rfl rfl ?_
          refine zs_bipush hΓ dX5_holds_67 (pc' := 69) rfl ⟨by decide, by decide⟩ ?_
          refine zs_icmpne hΓ dX5_holds_69 (tgt := 101) (by decide) (pc' := 72) rfl (fun c_69 => ?_) (fun c_69 => False.elim (by omega))
          refine zs_iload hΓ dX5_holds_101 (pc' := 103) rfl rfl ?_
          refine zs_bipush hΓ dX5_holds_103 (pc' := 105) rfl ⟨by decide, by decide⟩ ?_
          refine zs_icmpeq hΓ dX5_holds_105 (tgt := 115) (by decide) (pc' := 108) rfl (fun c_105 => False.elim (by omega)) (fun c_105 => ?_)
          refine zs_iload hΓ dX5_holds_108 (pc' := 110) rfl rfl ?_
          refine zs_bipush hΓ dX5_holds_110 (pc' := 112) rfl ⟨by decide, by decide⟩ ?_
          refine zs_icmpne hΓ dX5_holds_112 (tgt := 194) (by decide) (pc' := 115) rfl (fun c_112 => ?_) (fun c_112 => False.elim (by omega))
          refine zs_iload hΓ dX5_holds_194 (pc' := 196) rfl rfl ?_
          refine zs_bipush hΓ dX5_holds_196 (pc' := 198) rfl ⟨by decide, by decide⟩ ?_
          refine zs_icmpge hΓ dX5_holds_198 (tgt := 205) (by decide) (pc' := 201) rfl (fun c_198 => False.elim (by omega)) (fun c_198 => ?_)
          refine zs_iconst hΓ dX5_holds_201 (pc' := 202) rfl ⟨by decide, by decide⟩ ?_
          refine zs_goto hΓ dX5_holds_202 (tgt := 244) (by decide) ?_
          refine zs_istore hΓ dX5_holds_244 (pc' := 246) rfl (L' := [some (zR _), some (zI _), some (zI _), some (zI _), some (zI _), some (zI _), some (zI _), some (zI _)]) (by decide) rfl rfl ?_
          refine zs_aload_n hΓ dX5_holds_246 (pc' := 247) rfl rfl rfl ?_
          refine zs_getrE hΓ dX5_holds_247 (pc' := 250) rfl fX5_83 (i9 := 33) rfl rfl (tw_t hTw) (tw_p33 hTw) ?_
          refine zs_iload hΓ dX5_holds_250 (pc' := 252) rfl rfl ?_
          refine zs_iload hΓ dX5_holds_252 (pc' := 254) rfl rfl ?_
          refine zs_bipush hΓ dX5_holds_254 (pc' := 256) rfl ⟨by decide, by decide⟩ ?_
          refine zs_icmpge hΓ dX5_holds_256 (tgt := 269) (by decide) (pc' := 259) rfl (fun c_256 => False.elim (by omega)) (fun c_256 => ?_)
          refine zs_aload_n hΓ dX5_holds_259 (pc' := 260) rfl rfl rfl ?_
          refine zs_iload_n hΓ dX5_holds_260 (pc' := 261) rfl rfl rfl ?_
          refine zs_iload hΓ dX5_holds_261 (pc' := 263) rfl rfl ?_
          refine zs_callVIP hΓ dX5_holds_263 (pc' := 266) rfl kX5_334 (con_X5_is l hTw c s.1 hc (by omega)) (tw_t hTw) rfl rfl rfl (Nat.le_of_ble_eq_true rfl) (by omega) (by decide) (by omega) (by omega) ?_ (fun _ _ q _ => False.elim q)
          refine zs_goto hΓ dX5_holds_266 (tgt := 350) (by decide) ?_
          refine zs_eqI (y := iB (A s)) (by rw [r5, r28, r29, ← hA]; exact iB_iff (aTrue_lo hlo).symm) ?_
          refine zs_zast hΓ dX5_holds_350 (pc' := 351) rfl (tw_a33 hTw) (show (0 : Int) ≤ 1 by decide) (by omega) (by omega) (iB_01 _) ?_
          refine zs_iinc hΓ dX5_holds_351 (pc' := 354) rfl (L' := [some (zR _), some (zI _), some (zI _), some (zI _), some (zI _), some (zI _), some (zI _), some (zI _)]) rfl (by unfold inI; omega) (by decide) rfl rfl ?_
          refine zs_iinc hΓ dX5_holds_354 (pc' := 357) rfl (L' := [some (zR _), some (zI _), some (zI _), some (zI _), some (zI _), some (zI _), some (zI _), some (zI _)]) rfl (by unfold inI; omega) (by decide) rfl rfl ?_
          refine zs_goto hΓ dX5_holds_357 (tgt := 39) (by decide) ?_
          refine zs_drop 6 (L' := [some (zR _), some (zI _), some (zI _), some (zI _), some (zI _), some (zI _), none, some (zI _)]) rfl ?_
          refine zs_drop 7 (L' := [some (zR _), some (zI _), some (zI _), some (zI _), some (zI _), some (zI _), none, none]) rfl ?_
          rw [hl3]; exact ih9 (A s :: st) _ (hS.set rfl) w3 (hTr.push _) (by rw [hrun]; show rRun A rem (rSt A st s) = _; rw [hrS]) (by rw [List.length_cons]; omega)
        · have hhi : 8 ≤ s.1 := by omega
          have hfin : ∀ v, v = aV (fun w => cel (gI h (1, 5)) c w) s.1 → SS Γ 244 [some (zR (some (1, 0))), some (zI x), some (zI c), some (zI t), some (zI st.length), some (zI (200 * t + F + j)), some (zI s.1), none] [zI v] h' 0 0 := by
            intro v hv
            refine zs_istore hΓ dX5_holds_244 (pc' := 246) rfl (L' := [some (zR _), some (zI _), some (zI _), some (zI _), some (zI _), some (zI _), some (zI _), some (zI _)]) (by decide) rfl rfl ?_
            refine zs_aload_n hΓ dX5_holds_246 (pc' := 247) rfl rfl rfl ?_
            refine zs_getrE hΓ dX5_holds_247 (pc' := 250) rfl fX5_83 (i9 := 33) rfl rfl (tw_t hTw) (tw_p33 hTw) ?_
            refine zs_iload hΓ dX5_holds_250 (pc' := 252) rfl rfl ?_
            refine zs_iload hΓ dX5_holds_252 (pc' := 254) rfl rfl ?_
            refine zs_bipush hΓ dX5_holds_254 (pc' := 256) rfl ⟨by decide, by decide⟩ ?_
            refine zs_icmpge hΓ dX5_holds_256 (tgt := 269) (by decide) (pc' := 259) rfl (fun c_256 => ?_) (fun c_256 => False.elim (by omega))
            refine zs_aload_n hΓ dX5_holds_269 (pc' := 270) rfl rfl rfl ?_
            refine zs_getrE hΓ dX5_holds_270 (pc' := 273) rfl fX5_65 (i9 := 16) rfl rfl (tw_t hTw) (tw_p16 hTw) ?_
            refine zs_iload hΓ dX5_holds_273 (pc' := 275) rfl rfl ?_
            refine zs_iald hΓ dX5_holds_275 (pc' := 276) rfl (tw_a16 hTw) (by omega) (by omega) ?_
            refine zs_eqI (y := s.2.1) e16 ?_
            refine zs_bipush hΓ dX5_holds_276 (pc' := 278) rfl ⟨by decide, by decide⟩ ?_
            refine zs_icmpne hΓ dX5_holds_278 (tgt := 301) (by decide) (pc' := 281) rfl (fun c_278 => ?_) (fun c_278 => ?_)
            · refine zs_aload_n hΓ dX5_holds_301 (pc' := 302) rfl rfl rfl ?_
              refine zs_getrE hΓ dX5_holds_302 (pc' := 305) rfl fX5_65 (i9 := 16) rfl rfl (tw_t hTw) (tw_p16 hTw) ?_
              refine zs_iload hΓ dX5_holds_305 (pc' := 307) rfl rfl ?_
              refine zs_iald hΓ dX5_holds_307 (pc' := 308) rfl (tw_a16 hTw) (by omega) (by omega) ?_
              refine zs_eqI (y := s.2.1) e16 ?_
              refine zs_bipush hΓ dX5_holds_308 (pc' := 310) rfl ⟨by decide, by decide⟩ ?_
              refine zs_icmpne hΓ dX5_holds_310 (tgt := 333) (by decide) (pc' := 313) rfl (fun c_310 => ?_) (fun c_310 => ?_)
              · refine zs_iload hΓ dX5_holds_333 (pc' := 335) rfl rfl ?_
                refine zs_aload_n hΓ dX5_holds_335 (pc' := 336) rfl rfl rfl ?_
                refine zs_getrE hΓ dX5_holds_336 (pc' := 339) rfl fX5_68 (i9 := 17) rfl rfl (tw_t hTw) (tw_p17 hTw) ?_
                refine zs_iload hΓ dX5_holds_339 (pc' := 341) rfl rfl ?_
                refine zs_iald hΓ dX5_holds_341 (pc' := 342) rfl (tw_a17 hTw) (by omega) (by omega) ?_
                refine zs_eqI (y := s.2.2) e17 ?_
                refine zs_icmple hΓ dX5_holds_342 (tgt := 349) (by decide) (pc' := 345) rfl (fun c_342 => ?_) (fun c_342 => ?_)
                · refine zs_iconst hΓ dX5_holds_349 (pc' := 350) rfl ⟨by decide, by decide⟩ ?_
                  refine zs_eqI (y := iB (A s)) (by rw [← hA]; first | exact iB_t ((aTrue_hi hhi).mpr (by unfold aRel; omega)) | exact iB_f (fun z => by have := (aTrue_hi hhi).mp z; unfold aRel at this; omega)) ?_
                  refine zs_zast hΓ dX5_holds_350 (pc' := 351) rfl (tw_a33 hTw) (show (0 : Int) ≤ 1 by decide) (by omega) (by omega) (iB_01 _) ?_
                  refine zs_iinc hΓ dX5_holds_351 (pc' := 354) rfl (L' := [some (zR _), some (zI _), some (zI _), some (zI _), some (zI _), some (zI _), some (zI _), some (zI _)]) rfl (by unfold inI; omega) (by decide) rfl rfl ?_
                  refine zs_iinc hΓ dX5_holds_354 (pc' := 357) rfl (L' := [some (zR _), some (zI _), some (zI _), some (zI _), some (zI _), some (zI _), some (zI _), some (zI _)]) rfl (by unfold inI; omega) (by decide) rfl rfl ?_
                  refine zs_goto hΓ dX5_holds_357 (tgt := 39) (by decide) ?_
                  refine zs_drop 6 (L' := [some (zR _), some (zI _), some (zI _), some (zI _), some (zI _), some (zI _), none, some (zI _)]) rfl ?_
                  refine zs_drop 7 (L' := [some (zR _), some (zI _), some (zI _), some (zI _), some (zI _), some (zI _), none, none]) rfl ?_
                  rw [hl3]; exact ih9 (A s :: st) _ (hS.set rfl) w3 (hTr.push _) (by rw [hrun]; show rRun A rem (rSt A st s) = _; rw [hrS]) (by rw [List.length_cons]; omega)
                · refine zs_iconst hΓ dX5_holds_345 (pc' := 346) rfl ⟨by decide, by decide⟩ ?_
                  refine zs_goto hΓ dX5_holds_346 (tgt := 350) (by decide) ?_
                  refine zs_eqI (y := iB (A s)) (by rw [← hA]; first | exact iB_t ((aTrue_hi hhi).mpr (by unfold aRel; omega)) | exact iB_f (fun z => by have := (aTrue_hi hhi).mp z; unfold aRel at this; omega)) ?_
                  refine zs_zast hΓ dX5_holds_350 (pc' := 351) rfl (tw_a33 hTw) (show (0 : Int) ≤ 1 by decide) (by omega) (by omega) (iB_01 _) ?_
                  refine zs_iinc hΓ dX5_holds_351 (pc' := 354) rfl (L' := [some (zR _), some (zI _), some (zI _), some (zI _), some (zI _), some (zI _), some (zI _), some (zI _)]) rfl (by unfold inI; omega) (by decide) rfl rfl ?_
                  refine zs_iinc hΓ dX5_holds_354 (pc' := 357) rfl (L' := [some (zR _), some (zI _), some (zI _), some (zI _), some (zI _), some (zI _), some (zI _), some (zI _)]) rfl (by unfold inI; omega) (by decide) rfl rfl ?_
                  refine zs_goto hΓ dX5_holds_357 (tgt := 39) (by decide) ?_
                  refine zs_drop 6 (L' := [some (zR _), some (zI _), some (zI _), some (zI _), some (zI _), some (zI _), none, some (zI _)]) rfl ?_
                  refine zs_drop 7 (L' := [some (zR _), some (zI _), some (zI _), some (zI _), some (zI _), some (zI _), none, none]) rfl ?_
                  rw [hl3]; exact ih9 (A s :: st) _ (hS.set rfl) w3 (hTr.push _) (by rw [hrun]; show rRun A rem (rSt A st s) = _; rw [hrS]) (by rw [List.length_cons]; omega)
              · refine zs_iload hΓ dX5_holds_313 (pc' := 315) rfl rfl ?_
                refine zs_aload_n hΓ dX5_holds_315 (pc' := 316) rfl rfl rfl ?_
                refine zs_getrE hΓ dX5_holds_316 (pc' := 319) rfl fX5_68 (i9 := 17) rfl rfl (tw_t hTw) (tw_p17 hTw) ?_
                refine zs_iload hΓ dX5_holds_319 (pc' := 321) rfl rfl ?_
                refine zs_iald hΓ dX5_holds_321 (pc' := 322) rfl (tw_a17 hTw) (by omega) (by omega) ?_
                refine zs_eqI (y := s.2.2) e17 ?_
                refine zs_icmpne hΓ dX5_holds_322 (tgt := 329) (by decide) (pc' := 325) rfl (fun c_322 => ?_) (fun c_322 => ?_)
                · refine zs_iconst hΓ dX5_holds_329 (pc' := 330) rfl ⟨by decide, by decide⟩ ?_
                  refine zs_goto hΓ dX5_holds_330 (tgt := 350) (by decide) ?_
                  refine zs_eqI (y := iB (A s)) (by rw [← hA]; first | exact iB_t ((aTrue_hi hhi).mpr (by unfold aRel; omega)) | exact iB_f (fun z => by have := (aTrue_hi hhi).mp z; unfold aRel at this; omega)) ?_
                  refine zs_zast hΓ dX5_holds_350 (pc' := 351) rfl (tw_a33 hTw) (show (0 : Int) ≤ 1 by decide) (by omega) (by omega) (iB_01 _) ?_
                  refine zs_iinc hΓ dX5_holds_351 (pc' := 354) rfl (L' := [some (zR _), some (zI _), some (zI _), some (zI _), some (zI _), some (zI _), some (zI _), some (zI _)]) rfl (by unfold inI; omega) (by decide) rfl rfl ?_
                  refine zs_iinc hΓ dX5_holds_354 (pc' := 357) rfl (L' := [some (zR _), some (zI _), some (zI _), some (zI _), some (zI _), some (zI _), some (zI _), some (zI _)]) rfl (by unfold inI; omega) (by decide) rfl rfl ?_
                  refine zs_goto hΓ dX5_holds_357 (tgt := 39) (by decide) ?_
                  refine zs_drop 6 (L' := [some (zR _), some (zI _), some (zI _), some (zI _), some (zI _), some (zI _), none, some (zI _)]) rfl ?_
                  refine zs_drop 7 (L' := [some (zR _), some (zI _), some (zI _), some (zI _), some (zI _), some (zI _), none, none]) rfl ?_
                  rw [hl3]; exact ih9 (A s :: st) _ (hS.set rfl) w3 (hTr.push _) (by rw [hrun]; show rRun A rem (rSt A st s) = _; rw [hrS]) (by rw [List.length_cons]; omega)
                · refine zs_iconst hΓ dX5_holds_325 (pc' := 326) rfl ⟨by decide, by decide⟩ ?_
                  refine zs_goto hΓ dX5_holds_326 (tgt := 350) (by decide) ?_
                  refine zs_eqI (y := iB (A s)) (by rw [← hA]; first | exact iB_t ((aTrue_hi hhi).mpr (by unfold aRel; omega)) | exact iB_f (fun z => by have := (aTrue_hi hhi).mp z; unfold aRel at this; omega)) ?_
                  refine zs_zast hΓ dX5_holds_350 (pc' := 351) rfl (tw_a33 hTw) (show (0 : Int) ≤ 1 by decide) (by omega) (by omega) (iB_01 _) ?_
                  refine zs_iinc hΓ dX5_holds_351 (pc' := 354) rfl (L' := [some (zR _), some (zI _), some (zI _), some (zI _), some (zI _), some (zI _), some (zI _), some (zI _)]) rfl (by unfold inI; omega) (by decide) rfl rfl ?_
                  refine zs_iinc hΓ dX5_holds_354 (pc' := 357) rfl (L' := [some (zR _), some (zI _), some (zI _), some (zI _), some (zI _), some (zI _), some (zI _), some (zI _)]) rfl (by unfold inI; omega) (by decide) rfl rfl ?_
                  refine zs_goto hΓ dX5_holds_357 (tgt := 39) (by decide) ?_
                  refine zs_drop 6 (L' := [some (zR _), some (zI _), some (zI _), some (zI _), some (zI _), some (zI _), none, some (zI _)]) rfl ?_
                  refine zs_drop 7 (L' := [some (zR _), some (zI _), some (zI _), some (zI _), some (zI _), some (zI _), none, none]) rfl ?_
                  rw [hl3]; exact ih9 (A s :: st) _ (hS.set rfl) w3 (hTr.push _) (by rw [hrun]; show rRun A rem (rSt A st s) = _; rw [hrS]) (by rw [List.length_cons]; omega)
            · refine zs_iload hΓ dX5_holds_281 (pc' := 283) rfl rfl ?_
              refine zs_aload_n hΓ dX5_holds_283 (pc' := 284) rfl rfl rfl ?_
              refine zs_getrE hΓ dX5_holds_284 (pc' := 287) rfl fX5_68 (i9 := 17) rfl rfl (tw_t hTw) (tw_p17 hTw) ?_
              refine zs_iload hΓ dX5_holds_287 (pc' := 289) rfl rfl ?_
              refine zs_iald hΓ dX5_holds_289 (pc' := 290) rfl (tw_a17 hTw) (by omega) (by omega) ?_
              refine zs_eqI (y := s.2.2) e17 ?_
              refine zs_icmpge hΓ dX5_holds_290 (tgt := 297) (by decide) (pc' := 293) rfl (fun c_290 => ?_) (fun c_290 => ?_)
              · refine zs_iconst hΓ dX5_holds_297 (pc' := 298) rfl ⟨by decide, by decide⟩ ?_
                refine zs_goto hΓ dX5_holds_298 (tgt := 350) (by decide) ?_
                refine zs_eqI (y := iB (A s)) (by rw [← hA]; first | exact iB_t ((aTrue_hi hhi).mpr (by unfold aRel; omega)) | exact iB_f (fun z => by have := (aTrue_hi hhi).mp z; unfold aRel at this; omega)) ?_
                refine zs_zast hΓ dX5_holds_350 (pc' := 351) rfl (tw_a33 hTw) (show (0 : Int) ≤ 1 by decide) (by omega) (by omega) (iB_01 _) ?_
                refine zs_iinc hΓ dX5_holds_351 (pc' := 354) rfl (L' := [some (zR _), some (zI _), some (zI _), some (zI _), some (zI _), some (zI _), some (zI _), some (zI _)]) rfl (by unfold inI; omega) (by decide) rfl rfl ?_
                refine zs_iinc hΓ dX5_holds_354 (pc' := 357) rfl (L' := [some (zR _), some (zI _), some (zI _), some (zI _), some (zI _), some (zI _), some (zI _), some (zI _)]) rfl (by unfold inI; omega) (by decide) rfl rfl ?_
                refine zs_goto hΓ dX5_holds_357 (tgt := 39) (by decide) ?_
                refine zs_drop 6 (L' := [some (zR _), some (zI _), some (zI _), some (zI _), some (zI _), some (zI _), none, some (zI _)]) rfl ?_
                refine zs_drop 7 (L' := [some (zR _), some (zI _), some (zI _), some (zI _), some (zI _), some (zI _), none, none]) rfl ?_
                rw [hl3]; exact ih9 (A s :: st) _ (hS.set rfl) w3 (hTr.push _) (by rw [hrun]; show rRun A rem (rSt A st s) = _; rw [hrS]) (by rw [List.length_cons]; omega)
              · refine zs_iconst hΓ dX5_holds_293 (pc' := 294) rfl ⟨by decide, by decide⟩ ?_
                refine zs_goto hΓ dX5_holds_294 (tgt := 350) (by decide) ?_
                refine zs_eqI (y := iB (A s)) (by rw [← hA]; first | exact iB_t ((aTrue_hi hhi).mpr (by unfold aRel; omega)) | exact iB_f (fun z => by have := (aTrue_hi hhi).mp z; unfold aRel at this; omega)) ?_
                refine zs_zast hΓ dX5_holds_350 (pc' := 351) rfl (tw_a33 hTw) (show (0 : Int) ≤ 1 by decide) (by omega) (by omega) (iB_01 _) ?_
                refine zs_iinc hΓ dX5_holds_351 (pc' := 354) rfl (L' := [some (zR _), some (zI _), some (zI _), some (zI _), some (zI _), some (zI _), some (zI _), some (zI _)]) rfl (by unfold inI; omega) (by decide) rfl rfl ?_
                refine zs_iinc hΓ dX5_holds_354 (pc' := 357) rfl (L' := [some (zR _), some (zI _), some (zI _), some (zI _), some (zI _), some (zI _), some (zI _), some (zI _)]) rfl (by unfold inI; omega) (by decide) rfl rfl ?_
                refine zs_goto hΓ dX5_holds_357 (tgt := 39) (by decide) ?_
                refine zs_drop 6 (L' := [some (zR _), some (zI _), some (zI _), some (zI _), some (zI _), some (zI _), none, some (zI _)]) rfl ?_
                refine zs_drop 7 (L' := [some (zR _), some (zI _), some (zI _), some (zI _), some (zI _), some (zI _), none, none]) rfl ?_
                rw [hl3]; exact ih9 (A s :: st) _ (hS.set rfl) w3 (hTr.push _) (by rw [hrun]; show rRun A rem (rSt A st s) = _; rw [hrS]) (by rw [List.length_cons]; omega)
          refine zs_iload hΓ dX5_holds_39 (pc' := 41) rfl rfl ?_
          refine zs_sipush hΓ dX5_holds_41 (pc' := 44) rfl ⟨by decide, by decide⟩ ?_
          refine zs_iload_n hΓ dX5_holds_44 (pc' := 45) rfl rfl rfl ?_
          refine zs_imul hΓ dX5_holds_45 (pc' := 46) rfl (by unfold inI; omega) ?_
          refine zs_aload_n hΓ dX5_holds_46 (pc' := 47) rfl rfl rfl ?_
          refine zs_getrE hΓ dX5_holds_47 (pc' := 50) rfl fX5_59 (i9 := 14) rfl rfl (tw_t hTw) (tw_p14 hTw) ?_
          refine zs_iload_n hΓ dX5_holds_50 (pc' := 51) rfl rfl rfl ?_
          refine zs_iald hΓ dX5_holds_51 (pc' := 52) rfl (tw_a14 hTw) (by omega) (by omega) ?_
          refine zs_iadd hΓ dX5_holds_52 (pc' := 53) rfl (by unfold inI; omega) ?_
          refine zs_eqI (y := 200 * t + E) (by rw [e14]) ?_
          refine zs_icmpge hΓ dX5_holds_53 (tgt := 360) (by decide) (pc' := 56) rfl (fun c_53 => False.elim (absurd c_53 (by omega))) (fun c_53 => ?_)
          refine zs_aload_n hΓ dX5_holds_56 (pc' := 57) rfl rfl rfl ?_
          refine zs_getrE hΓ dX5_holds_57 (pc' := 60) rfl fX5_62 (i9 := 15) rfl rfl (tw_t hTw) (tw_p15 hTw) ?_
          refine zs_iload hΓ dX5_holds_60 (pc' := 62) rfl rfl ?_
          refine zs_iald hΓ dX5_holds_62 (pc' := 63) rfl (tw_a15 hTw) (by omega) (by omega) ?_
          refine zs_eqI (y := s.1) e15 ?_
          refine zs_istore hΓ dX5_holds_63 (pc' := 65) rfl (L' := [some (zR _), some (zI _), some (zI _), some (zI _), some (zI _), some (zI _), some (zI _), none]) (by decide) rfl rfl ?_
          refine zs_iload hΓ dX5_holds_65 (pc' := 67) rfl rfl ?_
          refine zs_bipush hΓ dX5_holds_67 (pc' := 69) rfl ⟨by decide, by decide⟩ ?_
          refine zs_icmpne hΓ dX5_holds_69 (tgt := 101) (by decide) (pc' := 72) rfl (fun c_69 => ?_) (fun c_69 => False.elim (by omega))
          refine zs_iload hΓ dX5_holds_101 (pc' := 103) rfl rfl ?_
          refine zs_bipush hΓ dX5_holds_103 (pc' := 105) rfl ⟨by decide, by decide⟩ ?_
          refine zs_icmpeq hΓ dX5_holds_105 (tgt := 115) (by decide) (pc' := 108) rfl (fun c_105 => False.elim (by omega)) (fun c_105 => ?_)
          refine zs_iload hΓ dX5_holds_108 (pc' := 110) rfl rfl ?_
          refine zs_bipush hΓ dX5_holds_110 (pc' := 112) rfl ⟨by decide, by decide⟩ ?_
          refine zs_icmpne hΓ dX5_holds_112 (tgt := 194) (by decide) (pc' := 115) rfl (fun c_112 => ?_) (fun c_112 => False.elim (by omega))
          refine zs_iload hΓ dX5_holds_194 (pc' := 196) rfl rfl ?_
          refine zs_bipush hΓ dX5_holds_196 (pc' := 198) rfl ⟨by decide, by decide⟩ ?_
          refine zs_icmpge hΓ dX5_holds_198 (tgt := 205) (by decide) (pc' := 201) rfl (fun c_198 => ?_) (fun c_198 => False.elim (by omega))
          refine zs_aload_n hΓ dX5_holds_205 (pc' := 206) rfl rfl rfl ?_
          refine zs_iload_n hΓ dX5_holds_206 (pc' := 207) rfl rfl rfl ?_
          refine zs_iload hΓ dX5_holds_207 (pc' := 209) rfl rfl ?_
          refine zs_bipush hΓ dX5_holds_209 (pc' := 211) rfl ⟨by decide, by decide⟩ ?_
          refine zs_icmpne hΓ dX5_holds_211 (tgt := 218) (by decide) (pc' := 214) rfl (fun c_211 => ?_) (fun c_211 => ?_)
          · refine zs_iload hΓ dX5_holds_218 (pc' := 220) rfl rfl ?_
            refine zs_bipush hΓ dX5_holds_220 (pc' := 222) rfl ⟨by decide, by decide⟩ ?_
            refine zs_icmpne hΓ dX5_holds_222 (tgt := 229) (by decide) (pc' := 225) rfl (fun c_222 => ?_) (fun c_222 => ?_)
            · refine zs_iload hΓ dX5_holds_229 (pc' := 231) rfl rfl ?_
              refine zs_bipush hΓ dX5_holds_231 (pc' := 233) rfl ⟨by decide, by decide⟩ ?_
              refine zs_icmpne hΓ dX5_holds_233 (tgt := 240) (by decide) (pc' := 236) rfl (fun c_233 => ?_) (fun c_233 => ?_)
              · refine zs_iconst hΓ dX5_holds_240 (pc' := 241) rfl ⟨by decide, by decide⟩ ?_
                refine zs_callVIP hΓ dX5_holds_241 (pc' := 244) rfl kX5_136 (con_X5_of l hTw c 5 hc (by decide)) (tw_t hTw) rfl rfl rfl (Nat.le_of_ble_eq_true rfl) (by omega) (by decide) (by omega) (by omega) ?_ (fun _ _ q _ => False.elim q)
                exact hfin _ (by rw [r5]; unfold aV; dsimp only; omega)
              · refine zs_iconst hΓ dX5_holds_236 (pc' := 237) rfl ⟨by decide, by decide⟩ ?_
                refine zs_goto hΓ dX5_holds_237 (tgt := 241) (by decide) ?_
                refine zs_callVIP hΓ dX5_holds_241 (pc' := 244) rfl kX5_136 (con_X5_of l hTw c 2 hc (by decide)) (tw_t hTw) rfl rfl rfl (Nat.le_of_ble_eq_true rfl) (by omega) (by decide) (by omega) (by omega) ?_ (fun _ _ q _ => False.elim q)
                exact hfin _ (by rw [r5]; unfold aV; dsimp only; omega)
            · refine zs_iconst hΓ dX5_holds_225 (pc' := 226) rfl ⟨by decide, by decide⟩ ?_
              refine zs_goto hΓ dX5_holds_226 (tgt := 241) (by decide) ?_
              refine zs_callVIP hΓ dX5_holds_241 (pc' := 244) rfl kX5_136 (con_X5_of l hTw c 4 hc (by decide)) (tw_t hTw) rfl rfl rfl (Nat.le_of_ble_eq_true rfl) (by omega) (by decide) (by omega) (by omega) ?_ (fun _ _ q _ => False.elim q)
              exact hfin _ (by rw [r5]; unfold aV; dsimp only; omega)
          · refine zs_iconst hΓ dX5_holds_214 (pc' := 215) rfl ⟨by decide, by decide⟩ ?_
            refine zs_goto hΓ dX5_holds_215 (tgt := 241) (by decide) ?_
            refine zs_callVIP hΓ dX5_holds_241 (pc' := 244) rfl kX5_136 (con_X5_of l hTw c 3 hc (by decide)) (tw_t hTw) rfl rfl rfl (Nat.le_of_ble_eq_true rfl) (by omega) (by decide) (by omega) (by omega) ?_ (fun _ _ q _ => False.elim q)
            exact hfin _ (by rw [r5]; unfold aV; dsimp only; omega)
  refine zs_iload_n hΓ dX5_holds_0 (pc' := 1) rfl rfl rfl ?_
  refine zs_bipush hΓ dX5_holds_1 (pc' := 3) rfl ⟨by decide, by decide⟩ ?_
  refine zs_idiv hΓ dX5_holds_3 (pc' := 4) rfl (by omega) (by omega) ?_
  rw [ex]
  refine zs_istore_n hΓ dX5_holds_4 (pc' := 5) rfl (L' := [some (zR _), some (zI _), some (zI _), some (zI _), none, none, none, none]) rfl (by decide) rfl rfl ?_
  refine zs_aload_n hΓ dX5_holds_5 (pc' := 6) rfl rfl rfl ?_
  refine zs_getrE hΓ dX5_holds_6 (pc' := 9) rfl fX5_56 (i9 := 13) rfl rfl (tw_t hTw) (tw_p13 hTw) ?_
  refine zs_iload_n hΓ dX5_holds_9 (pc' := 10) rfl rfl rfl ?_
  refine zs_iald hΓ dX5_holds_10 (pc' := 11) rfl (tw_a13 hTw) (by omega) (by omega) ?_
  refine zs_eqI (y := F) hF ?_
  refine zs_aload_n hΓ dX5_holds_11 (pc' := 12) rfl rfl rfl ?_
  refine zs_getrE hΓ dX5_holds_12 (pc' := 15) rfl fX5_59 (i9 := 14) rfl rfl (tw_t hTw) (tw_p14 hTw) ?_
  refine zs_iload_n hΓ dX5_holds_15 (pc' := 16) rfl rfl rfl ?_
  refine zs_iald hΓ dX5_holds_16 (pc' := 17) rfl (tw_a14 hTw) (by omega) (by omega) ?_
  refine zs_eqI (y := E) hE ?_
  refine zs_icmpne hΓ dX5_holds_17 (tgt := 22) (by decide) (pc' := 20) rfl (fun c_17 => ?_) (fun c_17 => ?_)
  · refine zs_iconst hΓ dX5_holds_22 (pc' := 23) rfl ⟨by decide, by decide⟩ ?_
    refine zs_istore hΓ dX5_holds_23 (pc' := 25) rfl (L' := [some (zR _), some (zI _), some (zI _), some (zI _), some (zI _), none, none, none]) (by decide) rfl rfl ?_
    refine zs_sipush hΓ dX5_holds_25 (pc' := 28) rfl ⟨by decide, by decide⟩ ?_
    refine zs_iload_n hΓ dX5_holds_28 (pc' := 29) rfl rfl rfl ?_
    refine zs_imul hΓ dX5_holds_29 (pc' := 30) rfl (by unfold inI; omega) ?_
    refine zs_aload_n hΓ dX5_holds_30 (pc' := 31) rfl rfl rfl ?_
    refine zs_getrE hΓ dX5_holds_31 (pc' := 34) rfl fX5_56 (i9 := 13) rfl rfl (tw_t hTw) (tw_p13 hTw) ?_
    refine zs_iload_n hΓ dX5_holds_34 (pc' := 35) rfl rfl rfl ?_
    refine zs_iald hΓ dX5_holds_35 (pc' := 36) rfl (tw_a13 hTw) (by omega) (by omega) ?_
    refine zs_eqI (y := F) hF ?_
    refine zs_iadd hΓ dX5_holds_36 (pc' := 37) rfl (by unfold inI; omega) ?_
    refine zs_istore hΓ dX5_holds_37 (pc' := 39) rfl (L' := [some (zR _), some (zI _), some (zI _), some (zI _), some (zI _), some (zI _), none, none]) (by decide) rfl rfl ?_
    have h9 := lp q.2.2.2 [] 0 h (Same.rf _ _) (fun i s hs => by rw [Nat.zero_add]; exact hs) (by omega) (l8.2.2.2.2.resolve_left (fun z => by rw [z] at l5; exact c_17 (by rw [l5]; show F = F + 0; omega))) (fun i hi => absurd hi (by simp)) rfl (fun z => by rw [z] at l5; exact c_17 (by rw [l5]; show F = F + 0; omega)) (Nat.zero_le _)
    rw [show 200 * t + F + ((0 : Nat) : Int) = 200 * t + F by omega] at h9
    exact h9
  · refine zs_iconst hΓ dX5_holds_20 (pc' := 21) rfl ⟨by decide, by decide⟩ ?_
    exact zs_zret hΓ dX5_holds_21 rfl (by first | omega | exact iB_01 _) (by omega) (by omega) (⟨_, rfl, iB_t (Or.inl (List.length_eq_zero_iff.mp (by omega))), Same.rf _ _⟩)
