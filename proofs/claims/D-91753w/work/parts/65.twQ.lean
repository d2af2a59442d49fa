/-! THE TWIN, Q: tape, park, images, count -/
set_option maxRecDepth 100000
theorem i8_i8 (x : Int) : i8 (i8 x) = i8 x := by
  unfold i8
  omega
abbrev cT1 (a : zNm) (j : Int) : Prop := a = (1, 1) ∨ (a = (1, 0) ∧ j = 2)
theorem con_X5_four (l : Launch) {h : zH} (hTw : TwT h) (v L : Int) (hL : gI h (1, 0) 2 = L) (hr : 0 ≤ L ∧ L + 4 ≤ 440) : Con l mX5_four 1 0 0 [zR (some (1, 0)), zI v] h (rV fun h' => Same cT1 h h' ∧ gI h' (1, 1) = sFour (gI h (1, 1)) L v ∧ gI h' (1, 0) 2 = L + 4) zNo := by
  refine Con.ofS (by decide +kernel) (Nat.le_of_ble_eq_true rfl) fun Γ hΓ hno hwf hav => ?_
  have hΓ : Ctx Γ l cX5_four RX5 "four" 3 (Option.none : Option Jvm.ClassFile.FieldType) _ _ 1 _ _ := hΓ
  show SS Γ 0 [some (zR _), some (zI _), none] [] _ 0 0
  have S1 : Same cT1 h h := Same.rf _ _
  have t1 : gI h (1, 1) = gI h (1, 1) := rfl
  have l1 := hL
  refine zs_bipush hΓ dX5_four_0 (pc' := 2) rfl ⟨by decide, by decide⟩ ?_
  refine zs_istore_n hΓ dX5_four_2 (pc' := 3) rfl (L' := [some (zR _), some (zI _), some (zI _)]) rfl (by decide) rfl rfl ?_
  refine zs_iload_n hΓ dX5_four_3 (pc' := 4) rfl rfl rfl ?_
  refine zs_iflt hΓ dX5_four_4 (tgt := 36) (by decide) (pc' := 7) rfl (fun c_4 => False.elim (absurd c_4 (by decide))) (fun c_4 => ?_)
  refine zs_aload_n hΓ dX5_four_7 (pc' := 8) rfl rfl rfl ?_
  refine zs_getrE hΓ dX5_four_8 (pc' := 11) rfl fX5_14 (i9 := 1) rfl rfl (tw_t hTw) (tw_p1 hTw) ?_
  refine zs_aload_n hΓ dX5_four_11 (pc' := 12) rfl rfl rfl ?_
  refine zs_geti hΓ dX5_four_12 (pc' := 15) rfl fX5_7 (i9 := 2) rfl rfl (tw_t hTw) ?_
  refine zs_eqI l1 ?_
  refine zs_iload_n hΓ dX5_four_15 (pc' := 16) rfl rfl rfl ?_
  refine zs_iload_n hΓ dX5_four_16 (pc' := 17) rfl rfl rfl ?_
  refine zs_ishr (m := 16777216) 24 hΓ dX5_four_17 (pc' := 18) rfl (by decide) (by decide) (by decide) ?_
  refine zs_i2b hΓ dX5_four_18 (pc' := 19) rfl  ?_
  refine zs_bast hΓ dX5_four_19 (pc' := 20) rfl (tw_a1 hTw) (show (0 : Int) ≤ 1 by decide) (by omega) (by omega) ?_
  refine zs_aload_n hΓ dX5_four_20 (pc' := 21) rfl rfl rfl ?_
  refine zs_dup hΓ dX5_four_21 (pc' := 22) rfl  ?_
  refine zs_geti hΓ dX5_four_22 (pc' := 25) rfl fX5_7 (i9 := 2) rfl rfl (tw_t hTw) ?_
  refine zs_eqI (y := L) (by rw [gI_ot _ _ _ (n1 (by decide))]; exact l1) ?_
  refine zs_iconst hΓ dX5_four_25 (pc' := 26) rfl ⟨by decide, by decide⟩ ?_
  refine zs_iadd hΓ dX5_four_26 (pc' := 27) rfl (by unfold inI; omega) ?_
  refine zs_puti hΓ dX5_four_27 (pc' := 30) rfl fX5_7 (fun q hq => (by cases hq; exact Or.inl rfl)) (i9 := 2) rfl trivial (tw_t hTw) (show (0 : Int) ≤ 1 by decide) ?_
  refine zs_nm (fun h2 e2 => ?_)
  have hTw : TwT h2 := by rw [e2]; exact hTw
  have l2 : gI h2 (1, 0) 2 = L + 1 := by rw [e2, gI_setI, if_pos ⟨rfl, rfl⟩]
  have t2 : gI h2 (1, 1) = upR (gI h (1, 1)) (L) (i8 (i8 (v / 16777216))) := by rw [e2, gI_ot _ _ _ (n1 (by decide)), gI_up]
  have S2 : Same cT1 h h2 := by rw [e2]; exact (S1.set (Or.inl rfl)).set (Or.inr ⟨rfl, rfl⟩)
  refine zs_iinc hΓ dX5_four_30 (pc' := 33) rfl (L' := [some (zR _), some (zI _), some (zI _)]) rfl (by unfold inI; omega) (by decide) rfl rfl ?_
  refine zs_goto hΓ dX5_four_33 (tgt := 3) (by decide) ?_
  refine zs_iload_n hΓ dX5_four_3 (pc' := 4) rfl rfl rfl ?_
  refine zs_iflt hΓ dX5_four_4 (tgt := 36) (by decide) (pc' := 7) rfl (fun c_4 => False.elim (absurd c_4 (by decide))) (fun c_4 => ?_)
  refine zs_aload_n hΓ dX5_four_7 (pc' := 8) rfl rfl rfl ?_
  refine zs_getrE hΓ dX5_four_8 (pc' := 11) rfl fX5_14 (i9 := 1) rfl rfl (tw_t hTw) (tw_p1 hTw) ?_
  refine zs_aload_n hΓ dX5_four_11 (pc' := 12) rfl rfl rfl ?_
  refine zs_geti hΓ dX5_four_12 (pc' := 15) rfl fX5_7 (i9 := 2) rfl rfl (tw_t hTw) ?_
  refine zs_eqI l2 ?_
  refine zs_iload_n hΓ dX5_four_15 (pc' := 16) rfl rfl rfl ?_
  refine zs_iload_n hΓ dX5_four_16 (pc' := 17) rfl rfl rfl ?_
  refine zs_ishr (m := 65536) 16 hΓ dX5_four_17 (pc' := 18) rfl (by decide) (by decide) (by decide) ?_
  refine zs_i2b hΓ dX5_four_18 (pc' := 19) rfl  ?_
  refine zs_bast hΓ dX5_four_19 (pc' := 20) rfl (tw_a1 hTw) (show (0 : Int) ≤ 1 by decide) (by omega) (by omega) ?_
  refine zs_aload_n hΓ dX5_four_20 (pc' := 21) rfl rfl rfl ?_
  refine zs_dup hΓ dX5_four_21 (pc' := 22) rfl  ?_
  refine zs_geti hΓ dX5_four_22 (pc' := 25) rfl fX5_7 (i9 := 2) rfl rfl (tw_t hTw) ?_
  refine zs_eqI (y := L + 1) (by rw [gI_ot _ _ _ (n1 (by decide))]; exact l2) ?_
  refine zs_iconst hΓ dX5_four_25 (pc' := 26) rfl ⟨by decide, by decide⟩ ?_
  refine zs_iadd hΓ dX5_four_26 (pc' := 27) rfl (by unfold inI; omega) ?_
  refine zs_puti hΓ dX5_four_27 (pc' := 30) rfl fX5_7 (fun q hq => (by cases hq; exact Or.inl rfl)) (i9 := 2) rfl trivial (tw_t hTw) (show (0 : Int) ≤ 1 by decide) ?_
  refine zs_nm (fun h3 e3 => ?_)
  have hTw : TwT h3 := by rw [e3]; exact hTw
  have l3 : gI h3 (1, 0) 2 = L + 2 := by rw [e3, gI_setI, if_pos ⟨rfl, rfl⟩]; omega
  have t3 : gI h3 (1, 1) = upR (gI h2 (1, 1)) (L + 1) (i8 (i8 (v / 65536))) := by rw [e3, gI_ot _ _ _ (n1 (by decide)), gI_up]
  have S3 : Same cT1 h h3 := by rw [e3]; exact (S2.set (Or.inl rfl)).set (Or.inr ⟨rfl, rfl⟩)
  refine zs_iinc hΓ dX5_four_30 (pc' := 33) rfl (L' := [some (zR _), some (zI _), some (zI _)]) rfl (by unfold inI; omega) (by decide) rfl rfl ?_
  refine zs_goto hΓ dX5_four_33 (tgt := 3) (by decide) ?_
  refine zs_iload_n hΓ dX5_four_3 (pc' := 4) rfl rfl rfl ?_
  refine zs_iflt hΓ dX5_four_4 (tgt := 36) (by decide) (pc' := 7) rfl (fun c_4 => False.elim (absurd c_4 (by decide))) (fun c_4 => ?_)
  refine zs_aload_n hΓ dX5_four_7 (pc' := 8) rfl rfl rfl ?_
  refine zs_getrE hΓ dX5_four_8 (pc' := 11) rfl fX5_14 (i9 := 1) rfl rfl (tw_t hTw) (tw_p1 hTw) ?_
  refine zs_aload_n hΓ dX5_four_11 (pc' := 12) rfl rfl rfl ?_
  refine zs_geti hΓ dX5_four_12 (pc' := 15) rfl fX5_7 (i9 := 2) rfl rfl (tw_t hTw) ?_
  refine zs_eqI l3 ?_
  refine zs_iload_n hΓ dX5_four_15 (pc' := 16) rfl rfl rfl ?_
  refine zs_iload_n hΓ dX5_four_16 (pc' := 17) rfl rfl rfl ?_
  refine zs_ishr (m := 256) 8 hΓ dX5_four_17 (pc' := 18) rfl (by decide) (by decide) (by decide) ?_
  refine zs_i2b hΓ dX5_four_18 (pc' := 19) rfl  ?_
  refine zs_bast hΓ dX5_four_19 (pc' := 20) rfl (tw_a1 hTw) (show (0 : Int) ≤ 1 by decide) (by omega) (by omega) ?_
  refine zs_aload_n hΓ dX5_four_20 (pc' := 21) rfl rfl rfl ?_
  refine zs_dup hΓ dX5_four_21 (pc' := 22) rfl  ?_
  refine zs_geti hΓ dX5_four_22 (pc' := 25) rfl fX5_7 (i9 := 2) rfl rfl (tw_t hTw) ?_
  refine zs_eqI (y := L + 2) (by rw [gI_ot _ _ _ (n1 (by decide))]; exact l3) ?_
  refine zs_iconst hΓ dX5_four_25 (pc' := 26) rfl ⟨by decide, by decide⟩ ?_
  refine zs_iadd hΓ dX5_four_26 (pc' := 27) rfl (by unfold inI; omega) ?_
  refine zs_puti hΓ dX5_four_27 (pc' := 30) rfl fX5_7 (fun q hq => (by cases hq; exact Or.inl rfl)) (i9 := 2) rfl trivial (tw_t hTw) (show (0 : Int) ≤ 1 by decide) ?_
  refine zs_nm (fun h4 e4 => ?_)
  have hTw : TwT h4 := by rw [e4]; exact hTw
  have l4 : gI h4 (1, 0) 2 = L + 3 := by rw [e4, gI_setI, if_pos ⟨rfl, rfl⟩]; omega
  have t4 : gI h4 (1, 1) = upR (gI h3 (1, 1)) (L + 2) (i8 (i8 (v / 256))) := by rw [e4, gI_ot _ _ _ (n1 (by decide)), gI_up]
  have S4 : Same cT1 h h4 := by rw [e4]; exact (S3.set (Or.inl rfl)).set (Or.inr ⟨rfl, rfl⟩)
  refine zs_iinc hΓ dX5_four_30 (pc' := 33) rfl (L' := [some (zR _), some (zI _), some (zI _)]) rfl (by unfold inI; omega) (by decide) rfl rfl ?_
  refine zs_goto hΓ dX5_four_33 (tgt := 3) (by decide) ?_
  refine zs_iload_n hΓ dX5_four_3 (pc' := 4) rfl rfl rfl ?_
  refine zs_iflt hΓ dX5_four_4 (tgt := 36) (by decide) (pc' := 7) rfl (fun c_4 => False.elim (absurd c_4 (by decide))) (fun c_4 => ?_)
  refine zs_aload_n hΓ dX5_four_7 (pc' := 8) rfl rfl rfl ?_
  refine zs_getrE hΓ dX5_four_8 (pc' := 11) rfl fX5_14 (i9 := 1) rfl rfl (tw_t hTw) (tw_p1 hTw) ?_
  refine zs_aload_n hΓ dX5_four_11 (pc' := 12) rfl rfl rfl ?_
  refine zs_geti hΓ dX5_four_12 (pc' := 15) rfl fX5_7 (i9 := 2) rfl rfl (tw_t hTw) ?_
  refine zs_eqI l4 ?_
  refine zs_iload_n hΓ dX5_four_15 (pc' := 16) rfl rfl rfl ?_
  refine zs_iload_n hΓ dX5_four_16 (pc' := 17) rfl rfl rfl ?_
  refine zs_ishr (m := 1) 0 hΓ dX5_four_17 (pc' := 18) rfl (by decide) (by decide) (by decide) ?_
  refine zs_i2b hΓ dX5_four_18 (pc' := 19) rfl  ?_
  refine zs_bast hΓ dX5_four_19 (pc' := 20) rfl (tw_a1 hTw) (show (0 : Int) ≤ 1 by decide) (by omega) (by omega) ?_
  refine zs_aload_n hΓ dX5_four_20 (pc' := 21) rfl rfl rfl ?_
  refine zs_dup hΓ dX5_four_21 (pc' := 22) rfl  ?_
  refine zs_geti hΓ dX5_four_22 (pc' := 25) rfl fX5_7 (i9 := 2) rfl rfl (tw_t hTw) ?_
  refine zs_eqI (y := L + 3) (by rw [gI_ot _ _ _ (n1 (by decide))]; exact l4) ?_
  refine zs_iconst hΓ dX5_four_25 (pc' := 26) rfl ⟨by decide, by decide⟩ ?_
  refine zs_iadd hΓ dX5_four_26 (pc' := 27) rfl (by unfold inI; omega) ?_
  refine zs_puti hΓ dX5_four_27 (pc' := 30) rfl fX5_7 (fun q hq => (by cases hq; exact Or.inl rfl)) (i9 := 2) rfl trivial (tw_t hTw) (show (0 : Int) ≤ 1 by decide) ?_
  refine zs_nm (fun h5 e5 => ?_)
  have hTw : TwT h5 := by rw [e5]; exact hTw
  have l5 : gI h5 (1, 0) 2 = L + 4 := by rw [e5, gI_setI, if_pos ⟨rfl, rfl⟩]; omega
  have t5 : gI h5 (1, 1) = upR (gI h4 (1, 1)) (L + 3) (i8 (i8 (v / 1))) := by rw [e5, gI_ot _ _ _ (n1 (by decide)), gI_up]
  have S5 : Same cT1 h h5 := by rw [e5]; exact (S4.set (Or.inl rfl)).set (Or.inr ⟨rfl, rfl⟩)
  refine zs_iinc hΓ dX5_four_30 (pc' := 33) rfl (L' := [some (zR _), some (zI _), some (zI _)]) rfl (by unfold inI; omega) (by decide) rfl rfl ?_
  refine zs_goto hΓ dX5_four_33 (tgt := 3) (by decide) ?_
  refine zs_iload_n hΓ dX5_four_3 (pc' := 4) rfl rfl rfl ?_
  refine zs_iflt hΓ dX5_four_4 (tgt := 36) (by decide) (pc' := 7) rfl (fun c_4 => ?_) (fun c_4 => False.elim (absurd c_4 (by decide)))
  exact zs_vret hΓ dX5_four_36 rfl (by omega) (by omega) (⟨rfl, S5, by
    rw [t5, t4, t3, t2]
    funext j
    unfold sFour upR
    rw [i8_i8, i8_i8, i8_i8, i8_i8, Int.ediv_one]
    by_cases j3 : j = L + 3
    · rw [if_pos j3, if_neg (by omega), if_neg (by omega), if_neg (by omega), if_pos j3]
    rw [if_neg j3]
    by_cases j2 : j = L + 2
    · rw [if_pos j2, if_neg (by omega), if_neg (by omega), if_pos j2]
    rw [if_neg j2]
    by_cases j1 : j = L + 1
    · rw [if_pos j1, if_neg (by omega), if_pos j1]
    rw [if_neg j1]
    by_cases j0 : j = L
    · rw [if_pos j0, if_pos j0]
    rw [if_neg j0, if_neg j0, if_neg j1, if_neg j2, if_neg j3], l5⟩)
theorem con_X5_feed (l : Launch) {h h1 : zH} (e1 : h1 = setI h (1, 0) 0 0) (hT1 : TwT h1) {L : Int} (hL : gI h1 (1, 0) 2 = L) (hr : 0 ≤ L ∧ L ≤ 440) (a b c d e : Int) : Con l mX5_feed 2 0 0 [zR (some (1, 0)), zI a, zI b, zI c, zI d, zI e] h (rI fun x h' => (L + 20 ≤ 440 → x = L + 20 ∧ Same cT1 h1 h' ∧ gI h' (1, 1) = sFeed (gI h1 (1, 1)) L a b c d e ∧ gI h' (1, 0) 2 = L + 20) ∧ (¬ L + 20 ≤ 440 → x = -1 ∧ h' = h1)) zNo := by
  refine Con.ofS (by decide +kernel) (Nat.le_of_ble_eq_true rfl) fun Γ hΓ hno hwf hav => ?_
  have hΓ : Ctx Γ l cX5_feed RX5 "feed" 6 (Option.some Jvm.ClassFile.FieldType.int) _ _ 2 _ _ := hΓ
  show SS Γ 0 [some (zR _), some (zI _), some (zI _), some (zI _), some (zI _), some (zI _)] [] _ 0 0
  have hTw := hT1.thr e1
  refine zs_aload_n hΓ dX5_feed_0 (pc' := 1) rfl rfl rfl ?_
  refine zs_iconst hΓ dX5_feed_1 (pc' := 2) rfl ⟨by decide, by decide⟩ ?_
  refine zs_puti hΓ dX5_feed_2 (pc' := 5) rfl fX5_1 (fun q hq => (by cases hq; exact Or.inl rfl)) (i9 := 0) rfl trivial (tw_t hTw) (show (0 : Int) ≤ 1 by decide) ?_
  rw [← e1]; have hTw := hT1
  refine zs_aload_n hΓ dX5_feed_5 (pc' := 6) rfl rfl rfl ?_
  refine zs_geti hΓ dX5_feed_6 (pc' := 9) rfl fX5_7 (i9 := 2) rfl rfl (tw_t hTw) ?_
  refine zs_eqI hL ?_
  refine zs_bipush hΓ dX5_feed_9 (pc' := 11) rfl ⟨by decide, by decide⟩ ?_
  refine zs_iadd hΓ dX5_feed_11 (pc' := 12) rfl (by unfold inI; omega) ?_
  refine zs_sipush hΓ dX5_feed_12 (pc' := 15) rfl ⟨by decide, by decide⟩ ?_
  refine zs_icmple hΓ dX5_feed_15 (tgt := 20) (by decide) (pc' := 18) rfl (fun c_15 => ?_) (fun c_15 => ?_)
  · refine zs_aload_n hΓ dX5_feed_20 (pc' := 21) rfl rfl rfl ?_
    refine zs_iload_n hΓ dX5_feed_21 (pc' := 22) rfl rfl rfl ?_
    refine zs_callVV hΓ dX5_feed_22 (pc' := 25) rfl kX5_10 (con_X5_four l hTw a (L) hL (by omega)) (tw_t hTw) rfl rfl rfl (Nat.le_of_ble_eq_true rfl) (by omega) (by decide) (by omega) (by omega) (fun h_22 q_22 k_22 => ?_) (fun _ _ q _ => False.elim q)
    obtain ⟨s1, t1, l1⟩ := q_22
    have hTw := hTw.same s1
    refine zs_aload_n hΓ dX5_feed_25 (pc' := 26) rfl rfl rfl ?_
    refine zs_iload_n hΓ dX5_feed_26 (pc' := 27) rfl rfl rfl ?_
    refine zs_callVV hΓ dX5_feed_27 (pc' := 30) rfl kX5_10 (con_X5_four l hTw b (L + 4) l1 (by omega)) (tw_t hTw) rfl rfl rfl (Nat.le_of_ble_eq_true rfl) (by omega) (by decide) (by omega) (by omega) (fun h_27 q_27 k_27 => ?_) (fun _ _ q _ => False.elim q)
    obtain ⟨s2, t2, l2⟩ := q_27
    have hTw := hTw.same s2
    have s2 := s1.tr s2
    rw [t1] at t2
    rw [show L + 4 + 4 = L + 8 by omega] at l2
    refine zs_aload_n hΓ dX5_feed_30 (pc' := 31) rfl rfl rfl ?_
    refine zs_iload_n hΓ dX5_feed_31 (pc' := 32) rfl rfl rfl ?_
    refine zs_callVV hΓ dX5_feed_32 (pc' := 35) rfl kX5_10 (con_X5_four l hTw c (L + 8) l2 (by omega)) (tw_t hTw) rfl rfl rfl (Nat.le_of_ble_eq_true rfl) (by omega) (by decide) (by omega) (by omega) (fun h_32 q_32 k_32 => ?_) (fun _ _ q _ => False.elim q)
    obtain ⟨s3, t3, l3⟩ := q_32
    have hTw := hTw.same s3
    have s3 := s2.tr s3
    rw [t2] at t3
    rw [show L + 8 + 4 = L + 12 by omega] at l3
    refine zs_aload_n hΓ dX5_feed_35 (pc' := 36) rfl rfl rfl ?_
    refine zs_iload hΓ dX5_feed_36 (pc' := 38) rfl rfl ?_
    refine zs_callVV hΓ dX5_feed_38 (pc' := 41) rfl kX5_10 (con_X5_four l hTw d (L + 12) l3 (by omega)) (tw_t hTw) rfl rfl rfl (Nat.le_of_ble_eq_true rfl) (by omega) (by decide) (by omega) (by omega) (fun h_38 q_38 k_38 => ?_) (fun _ _ q _ => False.elim q)
    obtain ⟨s4, t4, l4⟩ := q_38
    have hTw := hTw.same s4
    have s4 := s3.tr s4
    rw [t3] at t4
    rw [show L + 12 + 4 = L + 16 by omega] at l4
    refine zs_aload_n hΓ dX5_feed_41 (pc' := 42) rfl rfl rfl ?_
    refine zs_iload hΓ dX5_feed_42 (pc' := 44) rfl rfl ?_
    refine zs_callVV hΓ dX5_feed_44 (pc' := 47) rfl kX5_10 (con_X5_four l hTw e (L + 16) l4 (by omega)) (tw_t hTw) rfl rfl rfl (Nat.le_of_ble_eq_true rfl) (by omega) (by decide) (by omega) (by omega) (fun h_44 q_44 k_44 => ?_) (fun _ _ q _ => False.elim q)
    obtain ⟨s5, t5, l5⟩ := q_44
    have hTw := hTw.same s5
    have s5 := s4.tr s5
    rw [t4] at t5
    rw [show L + 16 + 4 = L + 20 by omega] at l5
    refine zs_aload_n hΓ dX5_feed_47 (pc' := 48) rfl rfl rfl ?_
    refine zs_geti hΓ dX5_feed_48 (pc' := 51) rfl fX5_7 (i9 := 2) rfl rfl (tw_t hTw) ?_
    refine zs_eqI l5 ?_
    exact zs_iret hΓ dX5_feed_51 rfl (by omega) (by omega) (⟨_, rfl, fun _ => ⟨rfl, s5, t5, l5⟩, fun z => by omega⟩)
  · refine zs_iconst hΓ dX5_feed_18 (pc' := 19) rfl ⟨by decide, by decide⟩ ?_
    exact zs_iret hΓ dX5_feed_19 rfl (by omega) (by omega) (⟨_, rfl, fun z => by omega, fun _ => ⟨rfl, rfl⟩⟩)
theorem con_X5_image (l : Launch) {h h1 : zH} (e1 : h1 = setI h (1, 0) 0 0) (hT1 : TwT h1) (k : Int) : Con l mX5_image 2 0 0 [zR (some (1, 0)), zI k] h (rI fun x h' => ((0 ≤ k ∧ k ≤ 2) → x = 1 ∧ Same (fun a j => (a = (1, 6) ∧ 2314 * k ≤ j ∧ j < 2314 * k + 2314) ∨ (a = (1, 8) ∧ j = k)) h1 h' ∧ (∀ j, 0 ≤ j → j < 2314 → gI h' (1, 6) (2314 * k + j) = gI h1 (1, 5) j) ∧ gI h' (1, 8) k = 1) ∧ (¬ (0 ≤ k ∧ k ≤ 2) → x = 0 ∧ h' = h1)) zNo := by
  refine Con.ofS (by decide +kernel) (Nat.le_of_ble_eq_true rfl) fun Γ hΓ hno hwf hav => ?_
  have hΓ : Ctx Γ l cX5_image RX5 "image" 3 (Option.some Jvm.ClassFile.FieldType.boolean) _ _ 2 _ _ := hΓ
  show SS Γ 0 [some (zR _), some (zI _), none] [] _ 0 0
  have hTw := hT1.thr e1
  have lp : (0 ≤ k ∧ k ≤ 2) → ∀ (m : Nat) (i : Int) (h' : zH), i + m = 2314 → 0 ≤ i → Same (fun a j => a = (1, 6) ∧ 2314 * k ≤ j ∧ j < 2314 * k + 2314) h1 h' → (∀ j, 0 ≤ j → j < i → gI h' (1, 6) (2314 * k + j) = gI h1 (1, 5) j) → SS Γ 18 [some (zR (some (1, 0))), some (zI k), some (zI i)] [] h' 0 0 := by
    intro hk m
    induction m with
    | zero =>
      intro i h' hi hi0 hS hr
      have hTw := hT1.same hS
      refine zs_iload_n hΓ dX5_image_18 (pc' := 19) rfl rfl rfl ?_
      refine zs_sipush hΓ dX5_image_19 (pc' := 22) rfl ⟨by decide, by decide⟩ ?_
      refine zs_icmpge hΓ dX5_image_22 (tgt := 49) (by decide) (pc' := 25) rfl (fun c_22 => ?_) (fun c_22 => False.elim (absurd c_22 (by omega)))
      refine zs_aload_n hΓ dX5_image_49 (pc' := 50) rfl rfl rfl ?_
      refine zs_getrE hΓ dX5_image_50 (pc' := 53) rfl fX5_40 (i9 := 8) rfl rfl (tw_t hTw) (tw_p8 hTw) ?_
      refine zs_iload_n hΓ dX5_image_53 (pc' := 54) rfl rfl rfl ?_
      refine zs_iconst hΓ dX5_image_54 (pc' := 55) rfl ⟨by decide, by decide⟩ ?_
      refine zs_zast hΓ dX5_image_55 (pc' := 56) rfl (tw_a8 hTw) (show (0 : Int) ≤ 1 by decide) (by omega) (by omega) (by omega) ?_
      refine zs_iconst hΓ dX5_image_56 (pc' := 57) rfl ⟨by decide, by decide⟩ ?_
      exact zs_zret hΓ dX5_image_57 rfl (by first | omega | exact iB_01 _) (by omega) (by omega) (⟨_, rfl, fun _ => ⟨rfl, (hS.mono fun _ _ z => Or.inl z).set (Or.inr ⟨rfl, rfl⟩), fun j j1 j2 => by rw [gI_ot _ _ _ (n1 (by decide))]; exact hr j j1 (by omega), by rw [gI_setI, if_pos ⟨rfl, rfl⟩]⟩, fun z => absurd hk z⟩)
    | succ m ih =>
      intro i h' hi hi0 hS hr
      have hTw := hT1.same hS
      have r5 : gI h' (1, 5) = gI h1 (1, 5) := hS.row fun _ z => n1 (by decide) z.1
      refine zs_iload_n hΓ dX5_image_18 (pc' := 19) rfl rfl rfl ?_
      refine zs_sipush hΓ dX5_image_19 (pc' := 22) rfl ⟨by decide, by decide⟩ ?_
      refine zs_icmpge hΓ dX5_image_22 (tgt := 49) (by decide) (pc' := 25) rfl (fun c_22 => False.elim (absurd c_22 (by omega))) (fun c_22 => ?_)
      refine zs_aload_n hΓ dX5_image_25 (pc' := 26) rfl rfl rfl ?_
      refine zs_getrE hΓ dX5_image_26 (pc' := 29) rfl fX5_34 (i9 := 6) rfl rfl (tw_t hTw) (tw_p6 hTw) ?_
      refine zs_sipush hΓ dX5_image_29 (pc' := 32) rfl ⟨by decide, by decide⟩ ?_
      refine zs_iload_n hΓ dX5_image_32 (pc' := 33) rfl rfl rfl ?_
      refine zs_imul hΓ dX5_image_33 (pc' := 34) rfl (by unfold inI; omega) ?_
      refine zs_iload_n hΓ dX5_image_34 (pc' := 35) rfl rfl rfl ?_
      refine zs_iadd hΓ dX5_image_35 (pc' := 36) rfl (by unfold inI; omega) ?_
      refine zs_aload_n hΓ dX5_image_36 (pc' := 37) rfl rfl rfl ?_
      refine zs_getrE hΓ dX5_image_37 (pc' := 40) rfl fX5_30 (i9 := 5) rfl rfl (tw_t hTw) (tw_p5 hTw) ?_
      refine zs_iload_n hΓ dX5_image_40 (pc' := 41) rfl rfl rfl ?_
      refine zs_iald hΓ dX5_image_41 (pc' := 42) rfl (tw_a5 hTw) (by omega) (by omega) ?_
      refine zs_eqI (congrFun r5 i) ?_
      refine zs_iast hΓ dX5_image_42 (pc' := 43) rfl (tw_a6 hTw) (show (0 : Int) ≤ 1 by decide) (by omega) (by omega) ?_
      refine zs_iinc hΓ dX5_image_43 (pc' := 46) rfl (L' := [some (zR _), some (zI _), some (zI _)]) rfl (by unfold inI; omega) (by decide) rfl rfl ?_
      refine zs_goto hΓ dX5_image_46 (tgt := 18) (by decide) ?_
      exact ih (i + 1) _ (by omega) (by omega) (hS.set ⟨rfl, by omega, by omega⟩) (fun j j1 j2 => by rw [gI_setI]; by_cases e : j = i; rw [if_pos ⟨rfl, by rw [e]⟩, e]; rw [if_neg (fun z => e (by omega))]; exact hr j j1 (by omega))
  refine zs_aload_n hΓ dX5_image_0 (pc' := 1) rfl rfl rfl ?_
  refine zs_iconst hΓ dX5_image_1 (pc' := 2) rfl ⟨by decide, by decide⟩ ?_
  refine zs_puti hΓ dX5_image_2 (pc' := 5) rfl fX5_1 (fun q hq => (by cases hq; exact Or.inl rfl)) (i9 := 0) rfl trivial (tw_t hTw) (show (0 : Int) ≤ 1 by decide) ?_
  rw [← e1]; have hTw := hT1
  refine zs_iload_n hΓ dX5_image_5 (pc' := 6) rfl rfl rfl ?_
  refine zs_iconst hΓ dX5_image_6 (pc' := 7) rfl ⟨by decide, by decide⟩ ?_
  refine zs_iconst hΓ dX5_image_7 (pc' := 8) rfl ⟨by decide, by decide⟩ ?_
  refine zs_callSIP hΓ dX5_image_8 (pc' := 11) rfl kX5_132 (con_X5_isIn l _ _ _) rfl rfl (Nat.le_of_ble_eq_true rfl) (by omega) (by decide) (by omega) (by omega) ?_ (fun _ _ q _ => False.elim q)
  refine zs_ifne hΓ dX5_image_11 (tgt := 16) (by decide) (pc' := 14) rfl (fun c_11 => ?_) (fun c_11 => ?_)
  · try have c_11 := iB_ne c_11
    refine zs_iconst hΓ dX5_image_16 (pc' := 17) rfl ⟨by decide, by decide⟩ ?_
    refine zs_istore_n hΓ dX5_image_17 (pc' := 18) rfl (L' := [some (zR _), some (zI _), some (zI _)]) rfl (by decide) rfl rfl ?_
    exact lp c_11 2314 0 h1 (by omega) (by omega) (Same.rf _ _) (fun j j1 j2 => by omega)
  · try have c_11 := iB_eq c_11
    refine zs_iconst hΓ dX5_image_14 (pc' := 15) rfl ⟨by decide, by decide⟩ ?_
    exact zs_zret hΓ dX5_image_15 rfl (by first | omega | exact iB_01 _) (by omega) (by omega) (⟨_, rfl, fun z => absurd z c_11, fun _ => ⟨rfl, rfl⟩⟩)
theorem con_X5_restore (l : Launch) {h h1 : zH} (e1 : h1 = setI h (1, 0) 0 0) (hT1 : TwT h1) (k : Int) : Con l mX5_restore 2 0 0 [zR (some (1, 0)), zI k] h (rI fun x h' => (((0 ≤ k ∧ k ≤ 2) ∧ gI h1 (1, 8) k ≠ 0) → x = 1 ∧ Same (fun a _ => a = (1, 5)) h1 h' ∧ gI h' (1, 5) = fun j => if 0 ≤ j ∧ j < 2314 then gI h1 (1, 6) (2314 * k + j) else gI h1 (1, 5) j) ∧ (¬ ((0 ≤ k ∧ k ≤ 2) ∧ gI h1 (1, 8) k ≠ 0) → x = 0 ∧ h' = h1)) zNo := by
  refine Con.ofS (by decide +kernel) (Nat.le_of_ble_eq_true rfl) fun Γ hΓ hno hwf hav => ?_
  have hΓ : Ctx Γ l cX5_restore RX5 "restore" 3 (Option.some Jvm.ClassFile.FieldType.boolean) _ _ 2 _ _ := hΓ
  show SS Γ 0 [some (zR _), some (zI _), none] [] _ 0 0
  have hTw := hT1.thr e1
  have lp : ((0 ≤ k ∧ k ≤ 2) ∧ gI h1 (1, 8) k ≠ 0) → ∀ (m : Nat) (i : Int) (h' : zH), i + m = 2314 → 0 ≤ i → Same (fun a _ => a = (1, 5)) h1 h' → (∀ j, gI h' (1, 5) j = if 0 ≤ j ∧ j < i then gI h1 (1, 6) (2314 * k + j) else gI h1 (1, 5) j) → SS Γ 27 [some (zR (some (1, 0))), some (zI k), some (zI i)] [] h' 0 0 := by
    intro hk m
    induction m with
    | zero =>
      intro i h' hi hi0 hS hr
      have hTw := hT1.same hS
      refine zs_iload_n hΓ dX5_restore_27 (pc' := 28) rfl rfl rfl ?_
      refine zs_sipush hΓ dX5_restore_28 (pc' := 31) rfl ⟨by decide, by decide⟩ ?_
      refine zs_icmpge hΓ dX5_restore_31 (tgt := 58) (by decide) (pc' := 34) rfl (fun c_31 => ?_) (fun c_31 => False.elim (absurd c_31 (by omega)))
      refine zs_iconst hΓ dX5_restore_58 (pc' := 59) rfl ⟨by decide, by decide⟩ ?_
      exact zs_zret hΓ dX5_restore_59 rfl (by first | omega | exact iB_01 _) (by omega) (by omega) (⟨_, rfl, fun _ => ⟨rfl, hS, by funext j; rw [hr, show i = 2314 by omega]⟩, fun z => absurd hk z⟩)
    | succ m ih =>
      intro i h' hi hi0 hS hr
      have hTw := hT1.same hS
      refine zs_iload_n hΓ dX5_restore_27 (pc' := 28) rfl rfl rfl ?_
      refine zs_sipush hΓ dX5_restore_28 (pc' := 31) rfl ⟨by decide, by decide⟩ ?_
      refine zs_icmpge hΓ dX5_restore_31 (tgt := 58) (by decide) (pc' := 34) rfl (fun c_31 => False.elim (absurd c_31 (by omega))) (fun c_31 => ?_)
      refine zs_aload_n hΓ dX5_restore_34 (pc' := 35) rfl rfl rfl ?_
      refine zs_getrE hΓ dX5_restore_35 (pc' := 38) rfl fX5_30 (i9 := 5) rfl rfl (tw_t hTw) (tw_p5 hTw) ?_
      refine zs_iload_n hΓ dX5_restore_38 (pc' := 39) rfl rfl rfl ?_
      refine zs_aload_n hΓ dX5_restore_39 (pc' := 40) rfl rfl rfl ?_
      refine zs_getrE hΓ dX5_restore_40 (pc' := 43) rfl fX5_34 (i9 := 6) rfl rfl (tw_t hTw) (tw_p6 hTw) ?_
      refine zs_sipush hΓ dX5_restore_43 (pc' := 46) rfl ⟨by decide, by decide⟩ ?_
      refine zs_iload_n hΓ dX5_restore_46 (pc' := 47) rfl rfl rfl ?_
      refine zs_imul hΓ dX5_restore_47 (pc' := 48) rfl (by unfold inI; omega) ?_
      refine zs_iload_n hΓ dX5_restore_48 (pc' := 49) rfl rfl rfl ?_
      refine zs_iadd hΓ dX5_restore_49 (pc' := 50) rfl (by unfold inI; omega) ?_
      refine zs_iald hΓ dX5_restore_50 (pc' := 51) rfl (tw_a6 hTw) (by omega) (by omega) ?_
      refine zs_eqI (hS.2.2 _ _ (n1 (by decide))) ?_
      refine zs_iast hΓ dX5_restore_51 (pc' := 52) rfl (tw_a5 hTw) (show (0 : Int) ≤ 1 by decide) (by omega) (by omega) ?_
      refine zs_iinc hΓ dX5_restore_52 (pc' := 55) rfl (L' := [some (zR _), some (zI _), some (zI _)]) rfl (by unfold inI; omega) (by decide) rfl rfl ?_
      refine zs_goto hΓ dX5_restore_55 (tgt := 27) (by decide) ?_
      exact ih (i + 1) _ (by omega) (by omega) (hS.set rfl) (fun j => by rw [gI_setI]; by_cases e : j = i; rw [if_pos ⟨rfl, e⟩, if_pos (by omega), e]; rw [if_neg (fun z => e z.2), hr]; by_cases e2 : 0 ≤ j ∧ j < i; rw [if_pos e2, if_pos (by omega)]; rw [if_neg e2, if_neg (by omega)])
  refine zs_aload_n hΓ dX5_restore_0 (pc' := 1) rfl rfl rfl ?_
  refine zs_iconst hΓ dX5_restore_1 (pc' := 2) rfl ⟨by decide, by decide⟩ ?_
  refine zs_puti hΓ dX5_restore_2 (pc' := 5) rfl fX5_1 (fun q hq => (by cases hq; exact Or.inl rfl)) (i9 := 0) rfl trivial (tw_t hTw) (show (0 : Int) ≤ 1 by decide) ?_
  rw [← e1]; have hTw := hT1
  refine zs_iload_n hΓ dX5_restore_5 (pc' := 6) rfl rfl rfl ?_
  refine zs_iconst hΓ dX5_restore_6 (pc' := 7) rfl ⟨by decide, by decide⟩ ?_
  refine zs_iconst hΓ dX5_restore_7 (pc' := 8) rfl ⟨by decide, by decide⟩ ?_
  refine zs_callSIP hΓ dX5_restore_8 (pc' := 11) rfl kX5_132 (con_X5_isIn l _ _ _) rfl rfl (Nat.le_of_ble_eq_true rfl) (by omega) (by decide) (by omega) (by omega) ?_ (fun _ _ q _ => False.elim q)
  refine zs_ifeq hΓ dX5_restore_11 (tgt := 23) (by decide) (pc' := 14) rfl (fun c_11 => ?_) (fun c_11 => ?_)
  · try have c_11 := iB_eq c_11
    refine zs_iconst hΓ dX5_restore_23 (pc' := 24) rfl ⟨by decide, by decide⟩ ?_
    exact zs_zret hΓ dX5_restore_24 rfl (by first | omega | exact iB_01 _) (by omega) (by omega) (⟨_, rfl, fun z => absurd z.1 c_11, fun _ => ⟨rfl, rfl⟩⟩)
  · try have c_11 := iB_ne c_11
    refine zs_aload_n hΓ dX5_restore_14 (pc' := 15) rfl rfl rfl ?_
    refine zs_getrE hΓ dX5_restore_15 (pc' := 18) rfl fX5_40 (i9 := 8) rfl rfl (tw_t hTw) (tw_p8 hTw) ?_
    refine zs_iload_n hΓ dX5_restore_18 (pc' := 19) rfl rfl rfl ?_
    refine zs_zald hΓ dX5_restore_19 (pc' := 20) rfl (tw_a8 hTw) (by omega) (by omega) ?_
    refine zs_ifne hΓ dX5_restore_20 (tgt := 25) (by decide) (pc' := 23) rfl (fun c_20 => ?_) (fun c_20 => ?_)
    · refine zs_iconst hΓ dX5_restore_25 (pc' := 26) rfl ⟨by decide, by decide⟩ ?_
      refine zs_istore_n hΓ dX5_restore_26 (pc' := 27) rfl (L' := [some (zR _), some (zI _), some (zI _)]) rfl (by decide) rfl rfl ?_
      exact lp ⟨c_11, c_20⟩ 2314 0 h1 (by omega) (by omega) (Same.rf _ _) (fun j => by rw [if_neg (by omega)])
    · refine zs_iconst hΓ dX5_restore_23 (pc' := 24) rfl ⟨by decide, by decide⟩ ?_
      exact zs_zret hΓ dX5_restore_24 rfl (by first | omega | exact iB_01 _) (by omega) (by omega) (⟨_, rfl, fun z => absurd c_20 z.2, fun _ => ⟨rfl, rfl⟩⟩)
/-- what 'count' tells: of the row and the tape's length -/
def sCount (R : Int → Int) (L what : Int) : Int := if what = 0 then R 0 else if what = 1 then R 1 else if what = 2 then R 2 else if what = 3 then sAlive R (R 12).toNat else if what = 4 then R 157 else if what = 5 then R 518 else if what = 6 then R 519 else if what = 7 then R 520 else if what = 8 then R 521 else if what = 9 then L else -1
theorem sAlive_r {R : Int → Int} : ∀ n : Nat, (∀ k : Int, 0 ≤ k → k < n → 0 ≤ R (13 + 6 * k + 5) ∧ R (13 + 6 * k + 5) ≤ 1) → 0 ≤ sAlive R n ∧ sAlive R n ≤ n
  | 0, _ => ⟨Int.le_refl 0, Int.le_refl 0⟩
  | n + 1, h => by
    have h1 := sAlive_r n (fun k k1 k2 => h k k1 (by omega))
    have h2 := h n (by omega) (by omega)
    show 0 ≤ sAlive R n + R (13 + 6 * n + 5) ∧ sAlive R n + R (13 + 6 * n + 5) ≤ ((n + 1 : Nat) : Int)
    omega
theorem con_X5_count (l : Launch) {h h1 : zH} (e1 : h1 = setI h (1, 0) 0 0) (hT1 : TwT h1) {R : Int → Int} (hR : gI h1 (1, 5) = R) (hok : RHd R) (what : Int) : Con l mX5_count 1 0 0 [zR (some (1, 0)), zI what] h (rI fun x h' => x = sCount R (gI h1 (1, 0) 2) what ∧ h' = h1) zNo := by
  refine Con.ofS (by decide +kernel) (Nat.le_of_ble_eq_true rfl) fun Γ hΓ hno hwf hav => ?_
  have hΓ : Ctx Γ l cX5_count RX5 "count" 4 (Option.some Jvm.ClassFile.FieldType.int) _ _ 1 _ _ := hΓ
  show SS Γ 0 [some (zR _), some (zI _), none, none] [] _ 0 0
  have hTw := hT1.thr e1
  have hm := hok.wm
  have lp : ∀ (m n : Nat), (n : Int) + m = R 12 → SS Γ 9 [some (zR (some (1, 0))), some (zI what), some (zI (sAlive R n)), some (zI n)] [] h1 0 0 := by
    intro m
    have hTw := hT1
    induction m with
    | zero =>
      intro n hn
      refine zs_iload_n hΓ dX5_count_9 (pc' := 10) rfl rfl rfl ?_
      refine zs_aload_n hΓ dX5_count_10 (pc' := 11) rfl rfl rfl ?_
      refine zs_getrE hΓ dX5_count_11 (pc' := 14) rfl fX5_30 (i9 := 5) rfl rfl (tw_t hTw) (tw_p5 hTw) ?_
      refine zs_bipush hΓ dX5_count_14 (pc' := 16) rfl ⟨by decide, by decide⟩ ?_
      refine zs_iald hΓ dX5_count_16 (pc' := 17) rfl (tw_a5 hTw) (by omega) (by omega) ?_
      refine zs_eqI (congrFun hR _) ?_
      refine zs_icmpge hΓ dX5_count_17 (tgt := 43) (by decide) (pc' := 20) rfl (fun c_17 => ?_) (fun c_17 => False.elim (absurd c_17 (by omega)))
      refine zs_iload_n hΓ dX5_count_43 (pc' := 44) rfl rfl rfl ?_
      rcases (show what = 0 ∨ what = 1 ∨ what = 2 ∨ what = 3 ∨ what = 4 ∨ what = 5 ∨ what = 6 ∨ what = 7 ∨ what = 8 ∨ what = 9 ∨ (what < 0 ∨ 9 < what) from by omega) with e_44 | e_44 | e_44 | e_44 | e_44 | e_44 | e_44 | e_44 | e_44 | e_44 | e_44
      · refine zs_tabIn hΓ dX5_count_44 (off := 56) (tgt := 100) (by omega) (by omega) (by rw [e_44]; rfl) (by decide) ?_
        refine zs_aload_n hΓ dX5_count_100 (pc' := 101) rfl rfl rfl ?_
        refine zs_getrE hΓ dX5_count_101 (pc' := 104) rfl fX5_30 (i9 := 5) rfl rfl (tw_t hTw) (tw_p5 hTw) ?_
        refine zs_iconst hΓ dX5_count_104 (pc' := 105) rfl ⟨by decide, by decide⟩ ?_
        refine zs_iald hΓ dX5_count_105 (pc' := 106) rfl (tw_a5 hTw) (by omega) (by omega) ?_
        refine zs_eqI (congrFun hR _) ?_
        exact zs_iret hΓ dX5_count_106 rfl (by omega) (by omega) (by rw [e_44]; exact ⟨_, rfl, rfl, rfl⟩)
      · refine zs_tabIn hΓ dX5_count_44 (off := 63) (tgt := 107) (by omega) (by omega) (by rw [e_44]; rfl) (by decide) ?_
        refine zs_aload_n hΓ dX5_count_107 (pc' := 108) rfl rfl rfl ?_
        refine zs_getrE hΓ dX5_count_108 (pc' := 111) rfl fX5_30 (i9 := 5) rfl rfl (tw_t hTw) (tw_p5 hTw) ?_
        refine zs_iconst hΓ dX5_count_111 (pc' := 112) rfl ⟨by decide, by decide⟩ ?_
        refine zs_iald hΓ dX5_count_112 (pc' := 113) rfl (tw_a5 hTw) (by omega) (by omega) ?_
        refine zs_eqI (congrFun hR _) ?_
        exact zs_iret hΓ dX5_count_113 rfl (by omega) (by omega) (by rw [e_44]; exact ⟨_, rfl, rfl, rfl⟩)
      · refine zs_tabIn hΓ dX5_count_44 (off := 70) (tgt := 114) (by omega) (by omega) (by rw [e_44]; rfl) (by decide) ?_
        refine zs_aload_n hΓ dX5_count_114 (pc' := 115) rfl rfl rfl ?_
        refine zs_getrE hΓ dX5_count_115 (pc' := 118) rfl fX5_30 (i9 := 5) rfl rfl (tw_t hTw) (tw_p5 hTw) ?_
        refine zs_iconst hΓ dX5_count_118 (pc' := 119) rfl ⟨by decide, by decide⟩ ?_
        refine zs_iald hΓ dX5_count_119 (pc' := 120) rfl (tw_a5 hTw) (by omega) (by omega) ?_
        refine zs_eqI (congrFun hR _) ?_
        exact zs_iret hΓ dX5_count_120 rfl (by omega) (by omega) (by rw [e_44]; exact ⟨_, rfl, rfl, rfl⟩)
      · refine zs_tabIn hΓ dX5_count_44 (off := 77) (tgt := 121) (by omega) (by omega) (by rw [e_44]; rfl) (by decide) ?_
        refine zs_iload_n hΓ dX5_count_121 (pc' := 122) rfl rfl rfl ?_
        exact zs_iret hΓ dX5_count_122 rfl (by omega) (by omega) (by rw [e_44]; exact ⟨_, rfl, by show _ = sAlive R (R 12).toNat; rw [show n = (R 12).toNat by omega], rfl⟩)
      · refine zs_tabIn hΓ dX5_count_44 (off := 79) (tgt := 123) (by omega) (by omega) (by rw [e_44]; rfl) (by decide) ?_
        refine zs_aload_n hΓ dX5_count_123 (pc' := 124) rfl rfl rfl ?_
        refine zs_getrE hΓ dX5_count_124 (pc' := 127) rfl fX5_30 (i9 := 5) rfl rfl (tw_t hTw) (tw_p5 hTw) ?_
        refine zs_sipush hΓ dX5_count_127 (pc' := 130) rfl ⟨by decide, by decide⟩ ?_
        refine zs_iald hΓ dX5_count_130 (pc' := 131) rfl (tw_a5 hTw) (by omega) (by omega) ?_
        refine zs_eqI (congrFun hR _) ?_
        exact zs_iret hΓ dX5_count_131 rfl (by omega) (by omega) (by rw [e_44]; exact ⟨_, rfl, rfl, rfl⟩)
      · refine zs_tabIn hΓ dX5_count_44 (off := 88) (tgt := 132) (by omega) (by omega) (by rw [e_44]; rfl) (by decide) ?_
        refine zs_aload_n hΓ dX5_count_132 (pc' := 133) rfl rfl rfl ?_
        refine zs_getrE hΓ dX5_count_133 (pc' := 136) rfl fX5_30 (i9 := 5) rfl rfl (tw_t hTw) (tw_p5 hTw) ?_
        refine zs_sipush hΓ dX5_count_136 (pc' := 139) rfl ⟨by decide, by decide⟩ ?_
        refine zs_iald hΓ dX5_count_139 (pc' := 140) rfl (tw_a5 hTw) (by omega) (by omega) ?_
        refine zs_eqI (congrFun hR _) ?_
        exact zs_iret hΓ dX5_count_140 rfl (by omega) (by omega) (by rw [e_44]; exact ⟨_, rfl, rfl, rfl⟩)
      · refine zs_tabIn hΓ dX5_count_44 (off := 97) (tgt := 141) (by omega) (by omega) (by rw [e_44]; rfl) (by decide) ?_
        refine zs_aload_n hΓ dX5_count_141 (pc' := 142) rfl rfl rfl ?_
        refine zs_getrE hΓ dX5_count_142 (pc' := 145) rfl fX5_30 (i9 := 5) rfl rfl (tw_t hTw) (tw_p5 hTw) ?_
        refine zs_sipush hΓ dX5_count_145 (pc' := 148) rfl ⟨by decide, by decide⟩ ?_
        refine zs_iald hΓ dX5_count_148 (pc' := 149) rfl (tw_a5 hTw) (by omega) (by omega) ?_
        refine zs_eqI (congrFun hR _) ?_
        exact zs_iret hΓ dX5_count_149 rfl (by omega) (by omega) (by rw [e_44]; exact ⟨_, rfl, rfl, rfl⟩)
      · refine zs_tabIn hΓ dX5_count_44 (off := 106) (tgt := 150) (by omega) (by omega) (by rw [e_44]; rfl) (by decide) ?_
        refine zs_aload_n hΓ dX5_count_150 (pc' := 151) rfl rfl rfl ?_
        refine zs_getrE hΓ dX5_count_151 (pc' := 154) rfl fX5_30 (i9 := 5) rfl rfl (tw_t hTw) (tw_p5 hTw) ?_
        refine zs_sipush hΓ dX5_count_154 (pc' := 157) rfl ⟨by decide, by decide⟩ ?_
        refine zs_iald hΓ dX5_count_157 (pc' := 158) rfl (tw_a5 hTw) (by omega) (by omega) ?_
        refine zs_eqI (congrFun hR _) ?_
        exact zs_iret hΓ dX5_count_158 rfl (by omega) (by omega) (by rw [e_44]; exact ⟨_, rfl, rfl, rfl⟩)
      · refine zs_tabIn hΓ dX5_count_44 (off := 115) (tgt := 159) (by omega) (by omega) (by rw [e_44]; rfl) (by decide) ?_
        refine zs_aload_n hΓ dX5_count_159 (pc' := 160) rfl rfl rfl ?_
        refine zs_getrE hΓ dX5_count_160 (pc' := 163) rfl fX5_30 (i9 := 5) rfl rfl (tw_t hTw) (tw_p5 hTw) ?_
        refine zs_sipush hΓ dX5_count_163 (pc' := 166) rfl ⟨by decide, by decide⟩ ?_
        refine zs_iald hΓ dX5_count_166 (pc' := 167) rfl (tw_a5 hTw) (by omega) (by omega) ?_
        refine zs_eqI (congrFun hR _) ?_
        exact zs_iret hΓ dX5_count_167 rfl (by omega) (by omega) (by rw [e_44]; exact ⟨_, rfl, rfl, rfl⟩)
      · refine zs_tabIn hΓ dX5_count_44 (off := 124) (tgt := 168) (by omega) (by omega) (by rw [e_44]; rfl) (by decide) ?_
        refine zs_aload_n hΓ dX5_count_168 (pc' := 169) rfl rfl rfl ?_
        refine zs_geti hΓ dX5_count_169 (pc' := 172) rfl fX5_7 (i9 := 2) rfl rfl (tw_t hTw) ?_
        exact zs_iret hΓ dX5_count_172 rfl (by omega) (by omega) (by rw [e_44]; exact ⟨_, rfl, rfl, rfl⟩)
      · refine zs_tabOut hΓ dX5_count_44 (tgt := 173) e_44 (by decide) ?_
        refine zs_iconst hΓ dX5_count_173 (pc' := 174) rfl ⟨by decide, by decide⟩ ?_
        exact zs_iret hΓ dX5_count_174 rfl (by omega) (by omega) (⟨_, rfl, by unfold sCount; rw [if_neg (by omega), if_neg (by omega), if_neg (by omega), if_neg (by omega), if_neg (by omega), if_neg (by omega), if_neg (by omega), if_neg (by omega), if_neg (by omega), if_neg (by omega)], rfl⟩)
    | succ m ih =>
      intro n hn
      have ha := sAlive_r (R := R) n (fun k k1 k2 => (hok.ws k k1 (by omega)).2.2.2.2.2)
      have hb := hok.ws n (by omega) (by omega)
      refine zs_iload_n hΓ dX5_count_9 (pc' := 10) rfl rfl rfl ?_
      refine zs_aload_n hΓ dX5_count_10 (pc' := 11) rfl rfl rfl ?_
      refine zs_getrE hΓ dX5_count_11 (pc' := 14) rfl fX5_30 (i9 := 5) rfl rfl (tw_t hTw) (tw_p5 hTw) ?_
      refine zs_bipush hΓ dX5_count_14 (pc' := 16) rfl ⟨by decide, by decide⟩ ?_
      refine zs_iald hΓ dX5_count_16 (pc' := 17) rfl (tw_a5 hTw) (by omega) (by omega) ?_
      refine zs_eqI (congrFun hR _) ?_
      refine zs_icmpge hΓ dX5_count_17 (tgt := 43) (by decide) (pc' := 20) rfl (fun c_17 => False.elim (absurd c_17 (by omega))) (fun c_17 => ?_)
      refine zs_iload_n hΓ dX5_count_20 (pc' := 21) rfl rfl rfl ?_
      refine zs_aload_n hΓ dX5_count_21 (pc' := 22) rfl rfl rfl ?_
      refine zs_getrE hΓ dX5_count_22 (pc' := 25) rfl fX5_30 (i9 := 5) rfl rfl (tw_t hTw) (tw_p5 hTw) ?_
      refine zs_bipush hΓ dX5_count_25 (pc' := 27) rfl ⟨by decide, by decide⟩ ?_
      refine zs_bipush hΓ dX5_count_27 (pc' := 29) rfl ⟨by decide, by decide⟩ ?_
      refine zs_iload_n hΓ dX5_count_29 (pc' := 30) rfl rfl rfl ?_
      refine zs_imul hΓ dX5_count_30 (pc' := 31) rfl (by unfold inI; omega) ?_
      refine zs_iadd hΓ dX5_count_31 (pc' := 32) rfl (by unfold inI; omega) ?_
      refine zs_iconst hΓ dX5_count_32 (pc' := 33) rfl ⟨by decide, by decide⟩ ?_
      refine zs_iadd hΓ dX5_count_33 (pc' := 34) rfl (by unfold inI; omega) ?_
      refine zs_iald hΓ dX5_count_34 (pc' := 35) rfl (tw_a5 hTw) (by omega) (by omega) ?_
      refine zs_eqI (congrFun hR _) ?_
      refine zs_iadd hΓ dX5_count_35 (pc' := 36) rfl (by unfold inI; omega) ?_
      refine zs_istore_n hΓ dX5_count_36 (pc' := 37) rfl (L' := [some (zR _), some (zI _), some (zI _), some (zI _)]) rfl (by decide) rfl rfl ?_
      refine zs_iinc hΓ dX5_count_37 (pc' := 40) rfl (L' := [some (zR _), some (zI _), some (zI _), some (zI _)]) rfl (by unfold inI; omega) (by decide) rfl rfl ?_
      refine zs_goto hΓ dX5_count_40 (tgt := 9) (by decide) ?_
      have h9 := ih (n + 1) (by omega)
      rw [show ((n + 1 : Nat) : Int) = (n : Int) + 1 by omega] at h9
      exact h9
  refine zs_aload_n hΓ dX5_count_0 (pc' := 1) rfl rfl rfl ?_
  refine zs_iconst hΓ dX5_count_1 (pc' := 2) rfl ⟨by decide, by decide⟩ ?_
  refine zs_puti hΓ dX5_count_2 (pc' := 5) rfl fX5_1 (fun q hq => (by cases hq; exact Or.inl rfl)) (i9 := 0) rfl trivial (tw_t hTw) (show (0 : Int) ≤ 1 by decide) ?_
  rw [← e1]; have hTw := hT1
  refine zs_iconst hΓ dX5_count_5 (pc' := 6) rfl ⟨by decide, by decide⟩ ?_
  refine zs_istore_n hΓ dX5_count_6 (pc' := 7) rfl (L' := [some (zR _), some (zI _), some (zI _), none]) rfl (by decide) rfl rfl ?_
  refine zs_iconst hΓ dX5_count_7 (pc' := 8) rfl ⟨by decide, by decide⟩ ?_
  refine zs_istore_n hΓ dX5_count_8 (pc' := 9) rfl (L' := [some (zR _), some (zI _), some (zI _), some (zI _)]) rfl (by decide) rfl rfl ?_
  exact lp (R 12).toNat 0 (by omega)
/-- a new ground of w by g cells, by its octets -/
def sPark (w g : Int) (o : Int → Int) : Int → Int := mapC (w * g) (fun c x => if x = 0 then o c % 8 else if x = 1 then o c / 8 % 2 else if x = 2 then o c / 16 else 0) (fun j => if j = 0 then w else if j = 1 then g else 0)
abbrev okPark (w g N : Int) (o : Int → Int) : Prop := (4 ≤ w ∧ w ≤ 16) ∧ (4 ≤ g ∧ g ≤ 16) ∧ N = w * g ∧ ∀ c, 0 ≤ c → c < N → o c % 8 ≠ 7
theorem con_X5_park (l : Launch) {h h1 : zH} (e1 : h1 = setI h (1, 0) 0 0) (hT1 : TwT h1) (hwf9 : ∀ j, j < 0 ∨ 2314 ≤ j → gI h1 (1, 5) j = 0) {o : Int → Int} {N : Int} (hO : ∀ k, gI h1 (1, 1) k % 256 = o k) (hN : gI h1 (1, 0) 2 = N) (hsz : 0 ≤ N ∧ N ≤ 440) (w g : Int) : Con l mX5_park 2 0 0 [zR (some (1, 0)), zI w, zI g] h (rI fun x h' => (okPark w g N o → x = 1 ∧ Same (fun a j => cX a j ∨ a = (1, 5)) (setI h1 (1, 0) 2 0) h' ∧ gI h' (1, 5) = sPark w g o) ∧ (¬ okPark w g N o → x = 0 ∧ Same cX (setI h1 (1, 0) 2 0) h')) zNo := by
  refine Con.ofS (by decide +kernel) (Nat.le_of_ble_eq_true rfl) fun Γ hΓ hno hwf hav => ?_
  have hΓ : Ctx Γ l cX5_park RX5 "park" 4 (Option.some Jvm.ClassFile.FieldType.boolean) _ _ 2 _ _ := hΓ
  show SS Γ 0 [some (zR _), some (zI _), some (zI _), none] [] _ 0 0
  have hTw := hT1.thr e1
  have hOr : ∀ k, 0 ≤ o k ∧ o k < 256 := fun k => by rw [← hO]; omega
  obtain ⟨hA, hAe⟩ : ∃ hA, hA = setI (setI (setI h1 (1, 0) 3 N) (1, 0) 2 0) (1, 0) 4 0 := ⟨_, rfl⟩
  have sA : Same (fun a j => a = (1, 0) ∧ 2 ≤ j ∧ j ≤ 4) h1 hA := by rw [hAe]; exact (((Same.rf _ _).set ⟨rfl, by decide⟩).set ⟨rfl, by decide⟩).set ⟨rfl, by decide⟩
  have sA2 : Same cX (setI h1 (1, 0) 2 0) hA := by rw [hAe]; exact taken_same h1 N
  have a3 : gI hA (1, 0) 3 = N := by rw [hAe, gI_setI, if_neg (by decide), gI_setI, if_neg (by decide), gI_setI, if_pos ⟨rfl, rfl⟩]
  have aO : ∀ k, gI hA (1, 1) k % 256 = o k := fun k => by rw [sA.2.2 _ _ (fun z => n1 (by decide) z.1)]; exact hO k
  have a5 : ∀ j, j < 0 ∨ 2314 ≤ j → gI hA (1, 5) j = 0 := fun j hj => by rw [sA.2.2 _ _ (fun z => n1 (by decide) z.1)]; exact hwf9 j hj
  have hTA : TwT hA := hT1.same sA
  generalize hf : (fun c x : Int => if x = 0 then o c % 8 else if x = 1 then o c / 8 % 2 else if x = 2 then o c / 16 else 0) = f
  have fe : ∀ c x, f c x = if x = 0 then o c % 8 else if x = 1 then o c / 8 % 2 else if x = 2 then o c / 16 else 0 := fun c x => by rw [← hf]
  have hs9 : sPark w g o = mapC (w * g) f (fun j => if j = 0 then w else if j = 1 then g else 0) := by unfold sPark; rw [hf]
  generalize hB0 : (fun j : Int => if j = 0 then w else if j = 1 then g else 0) = R0 at hs9
  have lp3 : okPark w g N o → ∀ (m : Nat) (i : Int) (h' : zH), i + m = N → 0 ≤ i → Same (fun a _ => a = (1, 5)) hA h' → gI h' (1, 5) = mapC i f R0 → SS Γ 110 [some (zR (some (1, 0))), some (zI w), some (zI g), some (zI i)] [] h' 0 0 := by
    intro hk m
    have hmul := mul16 hk.1 hk.2.1
    have hNm := hk.2.2.1
    induction m with
    | zero =>
      intro i h' hi hi0 hS hr
      have hTw := hTA.same hS
      refine zs_iload_n hΓ dX5_park_110 (pc' := 111) rfl rfl rfl ?_
      refine zs_aload_n hΓ dX5_park_111 (pc' := 112) rfl rfl rfl ?_
      refine zs_geti hΓ dX5_park_112 (pc' := 115) rfl fX5_18 (i9 := 3) rfl rfl (tw_t hTw) ?_
      refine zs_eqI ((hS.2.2 _ _ (n1 (by decide))).trans a3) ?_
      refine zs_icmpge hΓ dX5_park_115 (tgt := 168) (by decide) (pc' := 118) rfl (fun c_115 => ?_) (fun c_115 => False.elim (absurd c_115 (by omega)))
      refine zs_iconst hΓ dX5_park_168 (pc' := 169) rfl ⟨by decide, by decide⟩ ?_
      exact zs_zret hΓ dX5_park_169 rfl (by first | omega | exact iB_01 _) (by omega) (by omega) (⟨_, rfl, fun _ => ⟨rfl, (sA2.mono fun _ _ z => Or.inl z).tr (hS.mono fun _ _ z => Or.inr z), by rw [hr, hs9, show i = w * g by omega]⟩, fun z => absurd hk z⟩)
    | succ m ih =>
      intro i h' hi hi0 hS hr
      have hTw := hTA.same hS
      have o9 : ∀ h'', Same (fun a _ => a = (1, 5)) hA h'' → gI h'' (1, 1) i % 256 = o i := fun h'' s => by rw [s.2.2 _ _ (n1 (by decide))]; exact aO i
      have hoi := hOr i
      refine zs_iload_n hΓ dX5_park_110 (pc' := 111) rfl rfl rfl ?_
      refine zs_aload_n hΓ dX5_park_111 (pc' := 112) rfl rfl rfl ?_
      refine zs_geti hΓ dX5_park_112 (pc' := 115) rfl fX5_18 (i9 := 3) rfl rfl (tw_t hTw) ?_
      refine zs_eqI ((hS.2.2 _ _ (n1 (by decide))).trans a3) ?_
      refine zs_icmpge hΓ dX5_park_115 (tgt := 168) (by decide) (pc' := 118) rfl (fun c_115 => False.elim (absurd c_115 (by omega))) (fun c_115 => ?_)
      refine zs_aload_n hΓ dX5_park_118 (pc' := 119) rfl rfl rfl ?_
      refine zs_iload_n hΓ dX5_park_119 (pc' := 120) rfl rfl rfl ?_
      refine zs_iconst hΓ dX5_park_120 (pc' := 121) rfl ⟨by decide, by decide⟩ ?_
      refine zs_aload_n hΓ dX5_park_121 (pc' := 122) rfl rfl rfl ?_
      refine zs_iload_n hΓ dX5_park_122 (pc' := 123) rfl rfl rfl ?_
      refine zs_callVIP hΓ dX5_park_123 (pc' := 126) rfl kX5_147 (con_X5_octet l hTw i (by omega)) (tw_t hTw) rfl rfl rfl (Nat.le_of_ble_eq_true rfl) (by omega) (by decide) (by omega) (by omega) ?_ (fun _ _ q _ => False.elim q)
      rw [o9 _ hS]
      refine zs_bipush hΓ dX5_park_126 (pc' := 128) rfl ⟨by decide, by decide⟩ ?_
      refine zs_irem hΓ dX5_park_128 (pc' := 129) rfl (by omega) (by omega) ?_
      refine zs_callVVE hΓ dX5_park_129 (pc' := 132) rfl kX5_151 (con_X5_set l hTw i 0 _ (by omega) (by decide)) (tw_t hTw) rfl rfl rfl (Nat.le_of_ble_eq_true rfl) (by omega) (by decide) (by omega) (by omega) ?_ (fun _ _ q _ => False.elim q)
      refine zs_nm (fun h3 e3 => ?_)
      have hS3 : Same (fun a _ => a = (1, 5)) hA h3 := by rw [e3]; exact hS.set rfl
      have hTw : TwT h3 := by rw [e3]; exact hTw
      have r3 : gI h3 (1, 5) = upR (mapC i f R0) (522 + 7 * i + 0) (o i % 8) := by rw [e3, gI_up, hr]
      refine zs_aload_n hΓ dX5_park_132 (pc' := 133) rfl rfl rfl ?_
      refine zs_iload_n hΓ dX5_park_133 (pc' := 134) rfl rfl rfl ?_
      refine zs_iconst hΓ dX5_park_134 (pc' := 135) rfl ⟨by decide, by decide⟩ ?_
      refine zs_aload_n hΓ dX5_park_135 (pc' := 136) rfl rfl rfl ?_
      refine zs_iload_n hΓ dX5_park_136 (pc' := 137) rfl rfl rfl ?_
      refine zs_callVIP hΓ dX5_park_137 (pc' := 140) rfl kX5_147 (con_X5_octet l hTw i (by omega)) (tw_t hTw) rfl rfl rfl (Nat.le_of_ble_eq_true rfl) (by omega) (by decide) (by omega) (by omega) ?_ (fun _ _ q _ => False.elim q)
      rw [o9 _ hS3]
      refine zs_bipush hΓ dX5_park_140 (pc' := 142) rfl ⟨by decide, by decide⟩ ?_
      refine zs_idiv hΓ dX5_park_142 (pc' := 143) rfl (by omega) (by omega) ?_
      refine zs_iconst hΓ dX5_park_143 (pc' := 144) rfl ⟨by decide, by decide⟩ ?_
      refine zs_irem hΓ dX5_park_144 (pc' := 145) rfl (by omega) (by omega) ?_
      refine zs_callVVE hΓ dX5_park_145 (pc' := 148) rfl kX5_151 (con_X5_set l hTw i 1 _ (by omega) (by decide)) (tw_t hTw) rfl rfl rfl (Nat.le_of_ble_eq_true rfl) (by omega) (by decide) (by omega) (by omega) ?_ (fun _ _ q _ => False.elim q)
      refine zs_nm (fun h4 e4 => ?_)
      have hS4 : Same (fun a _ => a = (1, 5)) hA h4 := by rw [e4]; exact hS3.set rfl
      have hTw : TwT h4 := by rw [e4]; exact hTw
      have r4 : gI h4 (1, 5) = upR (upR (mapC i f R0) (522 + 7 * i + 0) (o i % 8)) (522 + 7 * i + 1) (o i / 8 % 2) := by rw [e4, gI_up, r3]
      refine zs_aload_n hΓ dX5_park_148 (pc' := 149) rfl rfl rfl ?_
      refine zs_iload_n hΓ dX5_park_149 (pc' := 150) rfl rfl rfl ?_
      refine zs_iconst hΓ dX5_park_150 (pc' := 151) rfl ⟨by decide, by decide⟩ ?_
      refine zs_aload_n hΓ dX5_park_151 (pc' := 152) rfl rfl rfl ?_
      refine zs_iload_n hΓ dX5_park_152 (pc' := 153) rfl rfl rfl ?_
      refine zs_callVIP hΓ dX5_park_153 (pc' := 156) rfl kX5_147 (con_X5_octet l hTw i (by omega)) (tw_t hTw) rfl rfl rfl (Nat.le_of_ble_eq_true rfl) (by omega) (by decide) (by omega) (by omega) ?_ (fun _ _ q _ => False.elim q)
      rw [o9 _ hS4]
      refine zs_bipush hΓ dX5_park_156 (pc' := 158) rfl ⟨by decide, by decide⟩ ?_
      refine zs_idiv hΓ dX5_park_158 (pc' := 159) rfl (by omega) (by omega) ?_
      refine zs_callVVE hΓ dX5_park_159 (pc' := 162) rfl kX5_151 (con_X5_set l hTw i 2 _ (by omega) (by decide)) (tw_t hTw) rfl rfl rfl (Nat.le_of_ble_eq_true rfl) (by omega) (by decide) (by omega) (by omega) ?_ (fun _ _ q _ => False.elim q)
      refine zs_iinc hΓ dX5_park_162 (pc' := 165) rfl (L' := [some (zR _), some (zI _), some (zI _), some (zI _)]) rfl (by unfold inI; omega) (by decide) rfl rfl ?_
      refine zs_goto hΓ dX5_park_165 (tgt := 110) (by decide) ?_
      exact ih (i + 1) _ (by omega) (by omega) (hS4.set rfl) (by
        rw [gI_up, r4]
        refine mapC_s hi0 (fun w' w1 w2 => ?_) (fun j hj => by rw [upR_n _ _ (by omega), upR_n _ _ (by omega), upR_n _ _ (by omega)])
        rw [fe]
        by_cases c2 : w' = 2
        · rw [c2, upR_s, if_neg (by decide), if_neg (by decide), if_pos rfl]
        rw [upR_n _ _ (by omega)]
        by_cases c1 : w' = 1
        · rw [c1, upR_s, if_neg (by decide), if_pos rfl]
        rw [upR_n _ _ (by omega)]
        by_cases c0 : w' = 0
        · rw [c0, upR_s, if_pos rfl]
        rw [upR_n _ _ (by omega), if_neg c0, if_neg c1, if_neg c2]
        have := mapC_cel' (n := i) (f := f) (R := R0) hi0 (Int.le_refl i) ⟨w1, w2⟩
        refine this.trans ?_
        show R0 _ = 0
        rw [← hB0]
        show (if 522 + 7 * i + w' = 0 then w else if 522 + 7 * i + w' = 1 then g else 0) = 0
        rw [if_neg (by omega), if_neg (by omega)])
  have lp2 : okPark w g N o → ∀ (m : Nat) (i : Int) (h' : zH), i + m = 2314 → 0 ≤ i → Same (fun a _ => a = (1, 5)) hA h' → (∀ j, j < i ∨ 2314 ≤ j → gI h' (1, 5) j = 0) → SS Γ 74 [some (zR (some (1, 0))), some (zI w), some (zI g), some (zI i)] [] h' 0 0 := by
    intro hk m
    induction m with
    | zero =>
      intro i h' hi hi0 hS hr
      have hTw := hTA.same hS
      refine zs_iload_n hΓ dX5_park_74 (pc' := 75) rfl rfl rfl ?_
      refine zs_sipush hΓ dX5_park_75 (pc' := 78) rfl ⟨by decide, by decide⟩ ?_
      refine zs_icmpge hΓ dX5_park_78 (tgt := 94) (by decide) (pc' := 81) rfl (fun c_78 => ?_) (fun c_78 => False.elim (absurd c_78 (by omega)))
      refine zs_aload_n hΓ dX5_park_94 (pc' := 95) rfl rfl rfl ?_
      refine zs_getrE hΓ dX5_park_95 (pc' := 98) rfl fX5_30 (i9 := 5) rfl rfl (tw_t hTw) (tw_p5 hTw) ?_
      refine zs_iconst hΓ dX5_park_98 (pc' := 99) rfl ⟨by decide, by decide⟩ ?_
      refine zs_iload_n hΓ dX5_park_99 (pc' := 100) rfl rfl rfl ?_
      refine zs_iast hΓ dX5_park_100 (pc' := 101) rfl (tw_a5 hTw) (show (0 : Int) ≤ 1 by decide) (by omega) (by omega) ?_
      refine zs_aload_n hΓ dX5_park_101 (pc' := 102) rfl rfl rfl ?_
      refine zs_getrE hΓ dX5_park_102 (pc' := 105) rfl fX5_30 (i9 := 5) rfl rfl (tw_t hTw) (tw_p5 hTw) ?_
      refine zs_iconst hΓ dX5_park_105 (pc' := 106) rfl ⟨by decide, by decide⟩ ?_
      refine zs_iload_n hΓ dX5_park_106 (pc' := 107) rfl rfl rfl ?_
      refine zs_iast hΓ dX5_park_107 (pc' := 108) rfl (tw_a5 hTw) (show (0 : Int) ≤ 1 by decide) (by omega) (by omega) ?_
      refine zs_iconst hΓ dX5_park_108 (pc' := 109) rfl ⟨by decide, by decide⟩ ?_
      refine zs_istore_n hΓ dX5_park_109 (pc' := 110) rfl (L' := [some (zR _), some (zI _), some (zI _), some (zI _)]) rfl (by decide) rfl rfl ?_
      exact lp3 hk N.toNat 0 _ (by omega) (by omega) ((hS.set rfl).set rfl) (by rw [mapC_0, gI_up, gI_up, ← hB0]; funext j; unfold upR; by_cases q1 : j = 1; rw [if_pos q1, if_neg (by omega), if_pos q1]; rw [if_neg q1]; by_cases q0 : j = 0; rw [if_pos q0, if_pos q0]; rw [if_neg q0, if_neg q0, if_neg q1]; exact hr j (by omega))
    | succ m ih =>
      intro i h' hi hi0 hS hr
      have hTw := hTA.same hS
      refine zs_iload_n hΓ dX5_park_74 (pc' := 75) rfl rfl rfl ?_
      refine zs_sipush hΓ dX5_park_75 (pc' := 78) rfl ⟨by decide, by decide⟩ ?_
      refine zs_icmpge hΓ dX5_park_78 (tgt := 94) (by decide) (pc' := 81) rfl (fun c_78 => False.elim (absurd c_78 (by omega))) (fun c_78 => ?_)
      refine zs_aload_n hΓ dX5_park_81 (pc' := 82) rfl rfl rfl ?_
      refine zs_getrE hΓ dX5_park_82 (pc' := 85) rfl fX5_30 (i9 := 5) rfl rfl (tw_t hTw) (tw_p5 hTw) ?_
      refine zs_iload_n hΓ dX5_park_85 (pc' := 86) rfl rfl rfl ?_
      refine zs_iconst hΓ dX5_park_86 (pc' := 87) rfl ⟨by decide, by decide⟩ ?_
      refine zs_iast hΓ dX5_park_87 (pc' := 88) rfl (tw_a5 hTw) (show (0 : Int) ≤ 1 by decide) (by omega) (by omega) ?_
      refine zs_iinc hΓ dX5_park_88 (pc' := 91) rfl (L' := [some (zR _), some (zI _), some (zI _), some (zI _)]) rfl (by unfold inI; omega) (by decide) rfl rfl ?_
      refine zs_goto hΓ dX5_park_91 (tgt := 74) (by decide) ?_
      exact ih (i + 1) _ (by omega) (by omega) (hS.set rfl) (fun j hj => by rw [gI_up]; unfold upR; by_cases e : j = i; rw [if_pos e]; rw [if_neg e]; exact hr j (by omega))
  have lp1 : (4 ≤ w ∧ w ≤ 16) → (4 ≤ g ∧ g ≤ 16) → N = w * g → ∀ (m : Nat) (i : Int), i + m = N → 0 ≤ i → (∀ c, 0 ≤ c → c < i → o c % 8 ≠ 7) → SS Γ 43 [some (zR (some (1, 0))), some (zI w), some (zI g), some (zI i)] [] hA 0 0 := by
    intro k1 k2 k3 m
    have hmul := mul16 k1 k2
    have hTw := hTA
    induction m with
    | zero =>
      intro i hi hi0 hal
      refine zs_iload_n hΓ dX5_park_43 (pc' := 44) rfl rfl rfl ?_
      refine zs_aload_n hΓ dX5_park_44 (pc' := 45) rfl rfl rfl ?_
      refine zs_geti hΓ dX5_park_45 (pc' := 48) rfl fX5_18 (i9 := 3) rfl rfl (tw_t hTw) ?_
      refine zs_eqI a3 ?_
      refine zs_icmpge hΓ dX5_park_48 (tgt := 72) (by decide) (pc' := 51) rfl (fun c_48 => ?_) (fun c_48 => False.elim (absurd c_48 (by omega)))
      refine zs_iconst hΓ dX5_park_72 (pc' := 73) rfl ⟨by decide, by decide⟩ ?_
      refine zs_istore_n hΓ dX5_park_73 (pc' := 74) rfl (L' := [some (zR _), some (zI _), some (zI _), some (zI _)]) rfl (by decide) rfl rfl ?_
      exact lp2 ⟨k1, k2, k3, fun c c1 c2 => hal c c1 (by omega)⟩ 2314 0 hA (by omega) (by omega) (Same.rf _ _) (fun j hj => a5 j (by omega))
    | succ m ih =>
      intro i hi hi0 hal
      have hoi := hOr i
      refine zs_iload_n hΓ dX5_park_43 (pc' := 44) rfl rfl rfl ?_
      refine zs_aload_n hΓ dX5_park_44 (pc' := 45) rfl rfl rfl ?_
      refine zs_geti hΓ dX5_park_45 (pc' := 48) rfl fX5_18 (i9 := 3) rfl rfl (tw_t hTw) ?_
      refine zs_eqI a3 ?_
      refine zs_icmpge hΓ dX5_park_48 (tgt := 72) (by decide) (pc' := 51) rfl (fun c_48 => False.elim (absurd c_48 (by omega))) (fun c_48 => ?_)
      refine zs_aload_n hΓ dX5_park_51 (pc' := 52) rfl rfl rfl ?_
      refine zs_iload_n hΓ dX5_park_52 (pc' := 53) rfl rfl rfl ?_
      refine zs_callVIP hΓ dX5_park_53 (pc' := 56) rfl kX5_147 (con_X5_octet l hTw i (by omega)) (tw_t hTw) rfl rfl rfl (Nat.le_of_ble_eq_true rfl) (by omega) (by decide) (by omega) (by omega) ?_ (fun _ _ q _ => False.elim q)
      rw [aO]
      refine zs_bipush hΓ dX5_park_56 (pc' := 58) rfl ⟨by decide, by decide⟩ ?_
      refine zs_irem hΓ dX5_park_58 (pc' := 59) rfl (by omega) (by omega) ?_
      refine zs_bipush hΓ dX5_park_59 (pc' := 61) rfl ⟨by decide, by decide⟩ ?_
      refine zs_icmpne hΓ dX5_park_61 (tgt := 66) (by decide) (pc' := 64) rfl (fun c_61 => ?_) (fun c_61 => ?_)
      · refine zs_iinc hΓ dX5_park_66 (pc' := 69) rfl (L' := [some (zR _), some (zI _), some (zI _), some (zI _)]) rfl (by unfold inI; omega) (by decide) rfl rfl ?_
        refine zs_goto hΓ dX5_park_69 (tgt := 43) (by decide) ?_
        exact ih (i + 1) (by omega) (by omega) (fun c c1 c2 => by by_cases e : c = i; rw [e]; exact c_61; exact hal c c1 (by omega))
      · refine zs_iconst hΓ dX5_park_64 (pc' := 65) rfl ⟨by decide, by decide⟩ ?_
        exact zs_zret hΓ dX5_park_65 rfl (by first | omega | exact iB_01 _) (by omega) (by omega) (⟨_, rfl, fun z => absurd c_61 (z.2.2.2 i hi0 (by omega)), fun _ => ⟨rfl, sA2⟩⟩)
  refine zs_aload_n hΓ dX5_park_0 (pc' := 1) rfl rfl rfl ?_
  refine zs_iconst hΓ dX5_park_1 (pc' := 2) rfl ⟨by decide, by decide⟩ ?_
  refine zs_puti hΓ dX5_park_2 (pc' := 5) rfl fX5_1 (fun q hq => (by cases hq; exact Or.inl rfl)) (i9 := 0) rfl trivial (tw_t hTw) (show (0 : Int) ≤ 1 by decide) ?_
  rw [← e1]; have hTw := hT1
  refine zs_aload_n hΓ dX5_park_5 (pc' := 6) rfl rfl rfl ?_
  refine zs_callVVE hΓ dX5_park_6 (pc' := 9) rfl kX5_144 (con_X5_taken l hTw) (tw_t hTw) rfl rfl rfl (Nat.le_of_ble_eq_true rfl) (by omega) (by decide) (by omega) (by omega) ?_ (fun _ _ q _ => False.elim q)
  rw [hN, ← hAe]; have hTw := hTA
  refine zs_iload_n hΓ dX5_park_9 (pc' := 10) rfl rfl rfl ?_
  refine zs_iconst hΓ dX5_park_10 (pc' := 11) rfl ⟨by decide, by decide⟩ ?_
  refine zs_bipush hΓ dX5_park_11 (pc' := 13) rfl ⟨by decide, by decide⟩ ?_
  refine zs_callSIP hΓ dX5_park_13 (pc' := 16) rfl kX5_132 (con_X5_isIn l _ _ _) rfl rfl (Nat.le_of_ble_eq_true rfl) (by omega) (by decide) (by omega) (by omega) ?_ (fun _ _ q _ => False.elim q)
  refine zs_ifeq hΓ dX5_park_16 (tgt := 39) (by decide) (pc' := 19) rfl (fun c_16 => ?_) (fun c_16 => ?_)
  · try have c_16 := iB_eq c_16
    refine zs_iconst hΓ dX5_park_39 (pc' := 40) rfl ⟨by decide, by decide⟩ ?_
    exact zs_zret hΓ dX5_park_40 rfl (by first | omega | exact iB_01 _) (by omega) (by omega) (⟨_, rfl, fun z => absurd z.1 c_16, fun _ => ⟨rfl, sA2⟩⟩)
  · try have c_16 := iB_ne c_16
    refine zs_iload_n hΓ dX5_park_19 (pc' := 20) rfl rfl rfl ?_
    refine zs_iconst hΓ dX5_park_20 (pc' := 21) rfl ⟨by decide, by decide⟩ ?_
    refine zs_bipush hΓ dX5_park_21 (pc' := 23) rfl ⟨by decide, by decide⟩ ?_
    refine zs_callSIP hΓ dX5_park_23 (pc' := 26) rfl kX5_132 (con_X5_isIn l _ _ _) rfl rfl (Nat.le_of_ble_eq_true rfl) (by omega) (by decide) (by omega) (by omega) ?_ (fun _ _ q _ => False.elim q)
    refine zs_ifeq hΓ dX5_park_26 (tgt := 39) (by decide) (pc' := 29) rfl (fun c_26 => ?_) (fun c_26 => ?_)
    · try have c_26 := iB_eq c_26
      refine zs_iconst hΓ dX5_park_39 (pc' := 40) rfl ⟨by decide, by decide⟩ ?_
      exact zs_zret hΓ dX5_park_40 rfl (by first | omega | exact iB_01 _) (by omega) (by omega) (⟨_, rfl, fun z => absurd z.2.1 c_26, fun _ => ⟨rfl, sA2⟩⟩)
    · try have c_26 := iB_ne c_26
      refine zs_aload_n hΓ dX5_park_29 (pc' := 30) rfl rfl rfl ?_
      refine zs_geti hΓ dX5_park_30 (pc' := 33) rfl fX5_18 (i9 := 3) rfl rfl (tw_t hTw) ?_
      refine zs_eqI a3 ?_
      refine zs_iload_n hΓ dX5_park_33 (pc' := 34) rfl rfl rfl ?_
      refine zs_iload_n hΓ dX5_park_34 (pc' := 35) rfl rfl rfl ?_
      refine zs_imul hΓ dX5_park_35 (pc' := 36) rfl (inI_mul16 c_16 c_26) ?_
      refine zs_icmpeq hΓ dX5_park_36 (tgt := 41) (by decide) (pc' := 39) rfl (fun c_36 => ?_) (fun c_36 => ?_)
      · refine zs_iconst hΓ dX5_park_41 (pc' := 42) rfl ⟨by decide, by decide⟩ ?_
        refine zs_istore_n hΓ dX5_park_42 (pc' := 43) rfl (L' := [some (zR _), some (zI _), some (zI _), some (zI _)]) rfl (by decide) rfl rfl ?_
        exact lp1 c_16 c_26 c_36 N.toNat 0 (by omega) (by omega) (fun c _ _ => by omega)
      · refine zs_iconst hΓ dX5_park_39 (pc' := 40) rfl ⟨by decide, by decide⟩ ?_
        exact zs_zret hΓ dX5_park_40 rfl (by first | omega | exact iB_01 _) (by omega) (by omega) (⟨_, rfl, fun z => absurd z.2.2.1 c_36, fun _ => ⟨rfl, sA2⟩⟩)
