/-! THE TWIN, I: treads, leaves, weeks, ticks -/
set_option maxRecDepth 100000
theorem con_X5_tread (l : Launch) {h : zH} {B b mu : Int} {tx0 : zTx} (hTw : TwT h) (hw9 : RW (gI h (1, 5))) (hcl9 : RCl B (gI h (1, 5))) (hB : B ≤ 1000000000) (b28 : gI h (1, 0) 28 = b) (b29 : gI h (1, 0) 29 = mu) (hT0 : TxR h 0 tx0) (c : Int) (hc : 0 ≤ c ∧ c < gI h (1, 5) 0 * gI h (1, 5) 1) : Con l mX5_tread 7 0 0 [zR (some (1, 0)), zI c] h (rV fun h' => Same (fun a j => a = (1, 5) ∨ a = (1, 33) ∨ (a = (1, 0) ∧ j = 42)) h h' ∧ gI h' (1, 5) = sTread (gI h (1, 5)) b mu tx0 c ∧ (gI h (1, 0) 42 = 0 ∨ gI h (1, 0) 42 = 1 → gI h' (1, 0) 42 = iB (gI h (1, 0) 42 = 1 ∨ c = gI h (1, 0) 40))) zNo := by
  refine Con.ofS (by decide +kernel) (Nat.le_of_ble_eq_true rfl) fun Γ hΓ hno hwf hav => ?_
  have hΓ : Ctx Γ l cX5_tread RX5 "tread" 3 (Option.none : Option Jvm.ClassFile.FieldType) _ _ 7 _ _ := hΓ
  show SS Γ 0 [some (zR _), some (zI _), none] [] _ 0 0
  have hcs := hw9.c
  have hcl := hcl9 c hc.1 (by omega)
  have hf := txFirst_r (A := sA (gI h (1, 5)) b mu c) (kd := 0) (usual := 5) (by decide) tx0 hT0.wf
  have hfin : ∀ h1, Same (fun a j => a = (1, 5) ∨ a = (1, 33)) h h1 → (∀ j, gI h1 (1, 5) j = if j = 522 + 7 * c + 3 then zIf (sGreen (gI h (1, 5)) c) (if 999 < cel (gI h (1, 5)) c 3 + txFirst (sA (gI h (1, 5)) b mu c) 0 5 tx0 then 999 else cel (gI h (1, 5)) c 3 + txFirst (sA (gI h (1, 5)) b mu c) 0 5 tx0) (cel (gI h (1, 5)) c 3) else gI h (1, 5) j) → SS Γ 43 [some (zR (some (1, 0))), some (zI c), none] [] h1 0 0 := by
    intro h1 hS1 hr1
    have hTw := hTw.same hS1
    have c5 : cel (gI h1 (1, 5)) c 5 = cel (gI h (1, 5)) c 5 := by show gI h1 (1, 5) _ = _; rw [hr1, if_neg (by omega)]; rfl
    have c6 : cel (gI h1 (1, 5)) c 6 = cel (gI h (1, 5)) c 6 := by show gI h1 (1, 5) _ = _; rw [hr1, if_neg (by omega)]; rfl
    have e42 : gI h1 (1, 0) 42 = gI h (1, 0) 42 := hS1.2.2 _ _ (by rintro (e | e) <;> exact n1 (by decide) e)
    have e40 : gI h1 (1, 0) 40 = gI h (1, 0) 40 := hS1.2.2 _ _ (by rintro (e | e) <;> exact n1 (by decide) e)
    have fin2 : ∀ v, (gI h (1, 0) 42 = 0 ∨ gI h (1, 0) 42 = 1 → v = iB (gI h (1, 0) 42 = 1 ∨ c = gI h (1, 0) 40)) → (rV fun h' => Same (fun a j => a = (1, 5) ∨ a = (1, 33) ∨ (a = (1, 0) ∧ j = 42)) h h' ∧ gI h' (1, 5) = sTread (gI h (1, 5)) b mu tx0 c ∧ (gI h (1, 0) 42 = 0 ∨ gI h (1, 0) 42 = 1 → gI h' (1, 0) 42 = iB (gI h (1, 0) 42 = 1 ∨ c = gI h (1, 0) 40))) none (setI (setI (setI h1 (1, 5) (522 + 7 * c + 5) (cel (gI h (1, 5)) c 5 + 1)) (1, 5) (522 + 7 * c + 6) (cel (gI h (1, 5)) c 6 + 1)) (1, 0) 42 v) := by
      intro v hv
      refine ⟨rfl, (((hS1.mono fun x j q => q.elim Or.inl fun q => Or.inr (Or.inl q)).set (Or.inl rfl)).set (Or.inl rfl)).set (Or.inr (Or.inr ⟨rfl, rfl⟩)), ?_, fun z => ?_⟩
      · rw [gI_ot _ _ _ (n1 (by decide)), gI_up, gI_up]
        funext j
        unfold sTread upR
        rw [hr1]
        by_cases j3 : j = 522 + 7 * c + 3
        · rw [if_neg (by omega), if_neg (by omega), if_pos j3, if_pos j3]
        · rw [if_neg j3, if_neg j3]
          by_cases j6 : j = 522 + 7 * c + 6
          · rw [if_pos j6, if_neg (by omega), if_pos j6]
          · rw [if_neg j6, if_neg j6]
      · rw [gI_setI, if_pos ⟨rfl, rfl⟩]
        exact hv z
    refine zs_aload_n hΓ dX5_tread_43 (pc' := 44) rfl rfl rfl ?_
    refine zs_iload_n hΓ dX5_tread_44 (pc' := 45) rfl rfl rfl ?_
    refine zs_iconst hΓ dX5_tread_45 (pc' := 46) rfl ⟨by decide, by decide⟩ ?_
    refine zs_aload_n hΓ dX5_tread_46 (pc' := 47) rfl rfl rfl ?_
    refine zs_iload_n hΓ dX5_tread_47 (pc' := 48) rfl rfl rfl ?_
    refine zs_iconst hΓ dX5_tread_48 (pc' := 49) rfl ⟨by decide, by decide⟩ ?_
    refine zs_callVIP hΓ dX5_tread_49 (pc' := 52) rfl kX5_136 (con_X5_of l hTw c 5 (by omega) (by decide)) (tw_t hTw) rfl rfl rfl (Nat.le_of_ble_eq_true rfl) (by omega) (by decide) (by omega) (by omega) ?_ (fun _ _ q _ => False.elim q)
    refine zs_eqI c5 ?_
    refine zs_iconst hΓ dX5_tread_52 (pc' := 53) rfl ⟨by decide, by decide⟩ ?_
    refine zs_iadd hΓ dX5_tread_53 (pc' := 54) rfl (by unfold inI; omega) ?_
    refine zs_callVVE hΓ dX5_tread_54 (pc' := 57) rfl kX5_151 (con_X5_set l (by exact hTw) c 5 _ (by omega) (by decide)) (tw_t hTw) rfl rfl rfl (Nat.le_of_ble_eq_true rfl) (by omega) (by decide) (by omega) (by omega) ?_ (fun _ _ q _ => False.elim q)
    refine zs_aload_n hΓ dX5_tread_57 (pc' := 58) rfl rfl rfl ?_
    refine zs_iload_n hΓ dX5_tread_58 (pc' := 59) rfl rfl rfl ?_
    refine zs_bipush hΓ dX5_tread_59 (pc' := 61) rfl ⟨by decide, by decide⟩ ?_
    refine zs_aload_n hΓ dX5_tread_61 (pc' := 62) rfl rfl rfl ?_
    refine zs_iload_n hΓ dX5_tread_62 (pc' := 63) rfl rfl rfl ?_
    refine zs_bipush hΓ dX5_tread_63 (pc' := 65) rfl ⟨by decide, by decide⟩ ?_
    refine zs_callVIP hΓ dX5_tread_65 (pc' := 68) rfl kX5_136 (con_X5_of l (by exact hTw) c 6 (by omega) (by decide)) (tw_t hTw) rfl rfl rfl (Nat.le_of_ble_eq_true rfl) (by omega) (by decide) (by omega) (by omega) ?_ (fun _ _ q _ => False.elim q)
    refine zs_eqI (y := cel (gI h (1, 5)) c 6) (by rw [gI_up]; show upR _ _ _ _ = _; rw [upR_n _ _ (by omega)]; exact c6) ?_
    refine zs_iconst hΓ dX5_tread_68 (pc' := 69) rfl ⟨by decide, by decide⟩ ?_
    refine zs_iadd hΓ dX5_tread_69 (pc' := 70) rfl (by unfold inI; omega) ?_
    refine zs_callVVE hΓ dX5_tread_70 (pc' := 73) rfl kX5_151 (con_X5_set l (by exact hTw) c 6 _ (by omega) (by decide)) (tw_t hTw) rfl rfl rfl (Nat.le_of_ble_eq_true rfl) (by omega) (by decide) (by omega) (by omega) ?_ (fun _ _ q _ => False.elim q)
    refine zs_aload_n hΓ dX5_tread_73 (pc' := 74) rfl rfl rfl ?_
    refine zs_aload_n hΓ dX5_tread_74 (pc' := 75) rfl rfl rfl ?_
    refine zs_geti hΓ dX5_tread_75 (pc' := 78) rfl fX5_405 (i9 := 42) rfl rfl (tw_t hTw) ?_
    refine zs_eqI e42 ?_
    refine zs_ifne hΓ dX5_tread_78 (tgt := 89) (by decide) (pc' := 81) rfl (fun c_78 => ?_) (fun c_78 => ?_)
    · refine zs_iconst hΓ dX5_tread_89 (pc' := 90) rfl ⟨by decide, by decide⟩ ?_
      refine zs_goto hΓ dX5_tread_90 (tgt := 94) (by decide) ?_
      refine zs_puti hΓ dX5_tread_94 (pc' := 97) rfl fX5_405 (fun q hq => (by cases hq; exact Or.inl rfl)) (i9 := 42) rfl (by show _ ∨ _; omega) (tw_t hTw) (show (0 : Int) ≤ 1 by decide) ?_
      exact zs_vret hΓ dX5_tread_97 rfl (by omega) (by omega) (fin2 1 (fun z => iB_t (Or.inl (by omega))))
    · refine zs_iload_n hΓ dX5_tread_81 (pc' := 82) rfl rfl rfl ?_
      refine zs_aload_n hΓ dX5_tread_82 (pc' := 83) rfl rfl rfl ?_
      refine zs_geti hΓ dX5_tread_83 (pc' := 86) rfl fX5_86 (i9 := 40) rfl rfl (tw_t hTw) ?_
      refine zs_eqI e40 ?_
      refine zs_icmpne hΓ dX5_tread_86 (tgt := 93) (by decide) (pc' := 89) rfl (fun c_86 => ?_) (fun c_86 => ?_)
      · refine zs_iconst hΓ dX5_tread_93 (pc' := 94) rfl ⟨by decide, by decide⟩ ?_
        refine zs_puti hΓ dX5_tread_94 (pc' := 97) rfl fX5_405 (fun q hq => (by cases hq; exact Or.inl rfl)) (i9 := 42) rfl (by show _ ∨ _; omega) (tw_t hTw) (show (0 : Int) ≤ 1 by decide) ?_
        exact zs_vret hΓ dX5_tread_97 rfl (by omega) (by omega) (fin2 0 (fun z => iB_f (by omega)))
      · refine zs_iconst hΓ dX5_tread_89 (pc' := 90) rfl ⟨by decide, by decide⟩ ?_
        refine zs_goto hΓ dX5_tread_90 (tgt := 94) (by decide) ?_
        refine zs_puti hΓ dX5_tread_94 (pc' := 97) rfl fX5_405 (fun q hq => (by cases hq; exact Or.inl rfl)) (i9 := 42) rfl (by show _ ∨ _; omega) (tw_t hTw) (show (0 : Int) ≤ 1 by decide) ?_
        exact zs_vret hΓ dX5_tread_97 rfl (by omega) (by omega) (fin2 1 (fun z => iB_t (Or.inr (by omega))))
  refine zs_aload_n hΓ dX5_tread_0 (pc' := 1) rfl rfl rfl ?_
  refine zs_iload_n hΓ dX5_tread_1 (pc' := 2) rfl rfl rfl ?_
  refine zs_callVIP hΓ dX5_tread_2 (pc' := 5) rfl kX5_356 (con_X5_isGreen l hTw c (by omega)) (tw_t hTw) rfl rfl rfl (Nat.le_of_ble_eq_true rfl) (by omega) (by decide) (by omega) (by omega) ?_ (fun _ _ q _ => False.elim q)
  refine zs_ifeq hΓ dX5_tread_5 (tgt := 43) (by decide) (pc' := 8) rfl (fun c_5 => ?_) (fun c_5 => ?_)
  · try have c_5 := iB_eq c_5
    exact hfin h (Same.rf _ _) (fun j => by rw [zIf_f c_5]; by_cases e : j = 522 + 7 * c + 3; rw [if_pos e, e]; rfl; rw [if_neg e])
  · try have c_5 := iB_ne c_5
    refine zs_aload_n hΓ dX5_tread_8 (pc' := 9) rfl rfl rfl ?_
    refine zs_iload_n hΓ dX5_tread_9 (pc' := 10) rfl rfl rfl ?_
    refine zs_iconst hΓ dX5_tread_10 (pc' := 11) rfl ⟨by decide, by decide⟩ ?_
    refine zs_callVIP hΓ dX5_tread_11 (pc' := 14) rfl kX5_136 (con_X5_of l hTw c 3 (by omega) (by decide)) (tw_t hTw) rfl rfl rfl (Nat.le_of_ble_eq_true rfl) (by omega) (by decide) (by omega) (by omega) ?_ (fun _ _ q _ => False.elim q)
    refine zs_aload_n hΓ dX5_tread_14 (pc' := 15) rfl rfl rfl ?_
    refine zs_iconst hΓ dX5_tread_15 (pc' := 16) rfl ⟨by decide, by decide⟩ ?_
    refine zs_iload_n hΓ dX5_tread_16 (pc' := 17) rfl rfl rfl ?_
    refine zs_iconst hΓ dX5_tread_17 (pc' := 18) rfl ⟨by decide, by decide⟩ ?_
    refine zs_callVI hΓ dX5_tread_18 (pc' := 21) rfl kX5_402 (con_X5_first l hTw 0 c 5 tx0 hT0 (by omega)) (tw_t hTw) rfl rfl rfl (Nat.le_of_ble_eq_true rfl) (by omega) (by decide) (by omega) (by omega) (fun x_18 h_18 q_18 k_18 => ?_) (fun _ _ q _ => False.elim q)
    obtain ⟨rfl, q9⟩ := q_18
    rw [b28, b29]
    have hTw := hTw.same q9
    have r9 : gI h_18 (1, 5) = gI h (1, 5) := q9.row fun _ => n1 (by decide)
    refine zs_iadd hΓ dX5_tread_21 (pc' := 22) rfl (by unfold inI; omega) ?_
    refine zs_istore_n hΓ dX5_tread_22 (pc' := 23) rfl (L' := [some (zR _), some (zI _), some (zI _)]) rfl (by decide) rfl rfl ?_
    refine zs_aload_n hΓ dX5_tread_23 (pc' := 24) rfl rfl rfl ?_
    refine zs_iload_n hΓ dX5_tread_24 (pc' := 25) rfl rfl rfl ?_
    refine zs_iconst hΓ dX5_tread_25 (pc' := 26) rfl ⟨by decide, by decide⟩ ?_
    refine zs_iload_n hΓ dX5_tread_26 (pc' := 27) rfl rfl rfl ?_
    refine zs_sipush hΓ dX5_tread_27 (pc' := 30) rfl ⟨by decide, by decide⟩ ?_
    refine zs_icmple hΓ dX5_tread_30 (tgt := 39) (by decide) (pc' := 33) rfl (fun c_30 => ?_) (fun c_30 => ?_)
    · refine zs_iload_n hΓ dX5_tread_39 (pc' := 40) rfl rfl rfl ?_
      refine zs_callVVE hΓ dX5_tread_40 (pc' := 43) rfl kX5_151 (con_X5_set l hTw c 3 _ (by omega) (by decide)) (tw_t hTw) rfl rfl rfl (Nat.le_of_ble_eq_true rfl) (by omega) (by decide) (by omega) (by omega) ?_ (fun _ _ q _ => False.elim q)
      refine zs_drop 2 (L' := [some (zR _), some (zI _), none]) rfl ?_
      exact hfin _ ((q9.mono fun _ _ z => Or.inr z).set (Or.inl rfl)) (fun j => by rw [gI_up, r9]; unfold upR; rw [zIf_t c_5]; by_cases e : j = 522 + 7 * c + 3; rw [if_pos e, if_pos e, if_neg (by omega)]; rw [if_neg e, if_neg e])
    · refine zs_sipush hΓ dX5_tread_33 (pc' := 36) rfl ⟨by decide, by decide⟩ ?_
      refine zs_goto hΓ dX5_tread_36 (tgt := 40) (by decide) ?_
      refine zs_callVVE hΓ dX5_tread_40 (pc' := 43) rfl kX5_151 (con_X5_set l hTw c 3 _ (by omega) (by decide)) (tw_t hTw) rfl rfl rfl (Nat.le_of_ble_eq_true rfl) (by omega) (by decide) (by omega) (by omega) ?_ (fun _ _ q _ => False.elim q)
      refine zs_drop 2 (L' := [some (zR _), some (zI _), none]) rfl ?_
      exact hfin _ ((q9.mono fun _ _ z => Or.inr z).set (Or.inl rfl)) (fun j => by rw [gI_up, r9]; unfold upR; rw [zIf_t c_5]; by_cases e : j = 522 + 7 * c + 3; rw [if_pos e, if_pos e, if_pos (by omega)]; rw [if_neg e, if_neg e])
theorem con_X5_leave (l : Launch) {h : zH} {B k : Int} (hTw : TwT h) (hok : RowOK B k (gI h (1, 5))) (k1 : 0 ≤ k) (k2 : k < gI h (1, 5) 157) : Con l mX5_leave 1 0 0 [zR (some (1, 0)), zI k] h (rV fun h' => Same (fun a _ => a = (1, 5)) h h' ∧ gI h' (1, 5) = sLeave (gI h (1, 5)) k) zNo := by
  refine Con.ofS (by decide +kernel) (Nat.le_of_ble_eq_true rfl) fun Γ hΓ hno hwf hav => ?_
  have hΓ : Ctx Γ l cX5_leave RX5 "leave" 3 (Option.none : Option Jvm.ClassFile.FieldType) _ _ 1 _ _ := hΓ
  show SS Γ 0 [some (zR _), some (zI _), none] [] _ 0 0
  have hm := hok.wk.1
  generalize hR : gI h (1, 5) = R at *
  have lp2 : ∀ (n9 : Nat) (i : Int) (h' : zH), (158 + 6 * (R 157 - 1) ≤ i ∧ i ≤ 158 + 6 * (R 157 - 1) + 6) → Same (fun a _ => a = (1, 5)) h h' → (∀ j, gI h' (1, 5) j = if j < i then sLeave R k j else R j) → 158 + 6 * (R 157 - 1) + 6 - i < n9 → SS Γ 77 [some (zR (some (1, 0))), some (zI k), some (zI i)] [] h' 0 0 := by
    intro n9
    induction n9 with
    | zero => intro i h' h8 hS hr hm9; exact absurd hm9 (by omega)
    | succ n9 ih =>
      intro i h' h8 hS hr hm9
      have hTw := hTw.same hS
      have e7 : gI h' (1, 5) 157 = R 157 - 1 := by rw [hr, if_pos (by omega)]; rfl
      refine zs_iload_n hΓ dX5_leave_77 (pc' := 78) rfl rfl rfl ?_
      refine zs_sipush hΓ dX5_leave_78 (pc' := 81) rfl ⟨by decide, by decide⟩ ?_
      refine zs_bipush hΓ dX5_leave_81 (pc' := 83) rfl ⟨by decide, by decide⟩ ?_
      refine zs_aload_n hΓ dX5_leave_83 (pc' := 84) rfl rfl rfl ?_
      refine zs_getrE hΓ dX5_leave_84 (pc' := 87) rfl fX5_30 (i9 := 5) rfl rfl (tw_t hTw) (tw_p5 hTw) ?_
      refine zs_sipush hΓ dX5_leave_87 (pc' := 90) rfl ⟨by decide, by decide⟩ ?_
      refine zs_iald hΓ dX5_leave_90 (pc' := 91) rfl (tw_a5 hTw) (by omega) (by omega) ?_
      refine zs_eqI e7 ?_
      refine zs_imul hΓ dX5_leave_91 (pc' := 92) rfl (by unfold inI; omega) ?_
      refine zs_iadd hΓ dX5_leave_92 (pc' := 93) rfl (by unfold inI; omega) ?_
      refine zs_bipush hΓ dX5_leave_93 (pc' := 95) rfl ⟨by decide, by decide⟩ ?_
      refine zs_iadd hΓ dX5_leave_95 (pc' := 96) rfl (by unfold inI; omega) ?_
      refine zs_icmpge hΓ dX5_leave_96 (tgt := 112) (by decide) (pc' := 99) rfl (fun c_96 => ?_) (fun c_96 => ?_)
      · exact zs_vret hΓ dX5_leave_112 rfl (by omega) (by omega) (⟨rfl, hS, by funext j; rw [hr]; by_cases e : j < i; rw [if_pos e]; rw [if_neg e]; unfold sLeave; rw [if_neg (by omega), if_neg (by omega), if_neg (by omega)]⟩)
      · refine zs_aload_n hΓ dX5_leave_99 (pc' := 100) rfl rfl rfl ?_
        refine zs_getrE hΓ dX5_leave_100 (pc' := 103) rfl fX5_30 (i9 := 5) rfl rfl (tw_t hTw) (tw_p5 hTw) ?_
        refine zs_iload_n hΓ dX5_leave_103 (pc' := 104) rfl rfl rfl ?_
        refine zs_iconst hΓ dX5_leave_104 (pc' := 105) rfl ⟨by decide, by decide⟩ ?_
        refine zs_iast hΓ dX5_leave_105 (pc' := 106) rfl (tw_a5 hTw) (show (0 : Int) ≤ 1 by decide) (by omega) (by omega) ?_
        refine zs_iinc hΓ dX5_leave_106 (pc' := 109) rfl (L' := [some (zR _), some (zI _), some (zI _)]) rfl (by unfold inI; omega) (by decide) rfl rfl ?_
        refine zs_goto hΓ dX5_leave_109 (tgt := 77) (by decide) ?_
        exact ih (i + 1) _ (by omega) (hS.set rfl) (fun j => by rw [gI_up]; unfold upR; by_cases e : j = i; rw [if_pos e, if_pos (by omega)]; unfold sLeave; rw [if_neg (by omega), if_neg (by omega), if_pos (by omega)]; rw [if_neg e, hr]; by_cases e2 : j < i; rw [if_pos e2, if_pos (by omega)]; rw [if_neg e2, if_neg (by omega)]) (by omega)
  have lp1 : ∀ (n9 : Nat) (i : Int) (h' : zH), (158 + 6 * k ≤ i ∧ i ≤ 158 + 6 * (R 157 - 1)) → Same (fun a _ => a = (1, 5)) h h' → (∀ j, gI h' (1, 5) j = if j < i then sLeave R k j else R j) → 158 + 6 * (R 157 - 1) - i < n9 → SS Γ 21 [some (zR (some (1, 0))), some (zI k), some (zI i)] [] h' 0 0 := by
    intro n9
    induction n9 with
    | zero => intro i h' h8 hS hr hm9; exact absurd hm9 (by omega)
    | succ n9 ih =>
      intro i h' h8 hS hr hm9
      have hTw := hTw.same hS
      have e7 : gI h' (1, 5) 157 = R 157 - 1 := by rw [hr, if_pos (by omega)]; rfl
      refine zs_iload_n hΓ dX5_leave_21 (pc' := 22) rfl rfl rfl ?_
      refine zs_sipush hΓ dX5_leave_22 (pc' := 25) rfl ⟨by decide, by decide⟩ ?_
      refine zs_bipush hΓ dX5_leave_25 (pc' := 27) rfl ⟨by decide, by decide⟩ ?_
      refine zs_aload_n hΓ dX5_leave_27 (pc' := 28) rfl rfl rfl ?_
      refine zs_getrE hΓ dX5_leave_28 (pc' := 31) rfl fX5_30 (i9 := 5) rfl rfl (tw_t hTw) (tw_p5 hTw) ?_
      refine zs_sipush hΓ dX5_leave_31 (pc' := 34) rfl ⟨by decide, by decide⟩ ?_
      refine zs_iald hΓ dX5_leave_34 (pc' := 35) rfl (tw_a5 hTw) (by omega) (by omega) ?_
      refine zs_eqI e7 ?_
      refine zs_imul hΓ dX5_leave_35 (pc' := 36) rfl (by unfold inI; omega) ?_
      refine zs_iadd hΓ dX5_leave_36 (pc' := 37) rfl (by unfold inI; omega) ?_
      refine zs_icmpge hΓ dX5_leave_37 (tgt := 61) (by decide) (pc' := 40) rfl (fun c_37 => ?_) (fun c_37 => ?_)
      · refine zs_sipush hΓ dX5_leave_61 (pc' := 64) rfl ⟨by decide, by decide⟩ ?_
        refine zs_bipush hΓ dX5_leave_64 (pc' := 66) rfl ⟨by decide, by decide⟩ ?_
        refine zs_aload_n hΓ dX5_leave_66 (pc' := 67) rfl rfl rfl ?_
        refine zs_getrE hΓ dX5_leave_67 (pc' := 70) rfl fX5_30 (i9 := 5) rfl rfl (tw_t hTw) (tw_p5 hTw) ?_
        refine zs_sipush hΓ dX5_leave_70 (pc' := 73) rfl ⟨by decide, by decide⟩ ?_
        refine zs_iald hΓ dX5_leave_73 (pc' := 74) rfl (tw_a5 hTw) (by omega) (by omega) ?_
        refine zs_eqI e7 ?_
        refine zs_imul hΓ dX5_leave_74 (pc' := 75) rfl (by unfold inI; omega) ?_
        refine zs_iadd hΓ dX5_leave_75 (pc' := 76) rfl (by unfold inI; omega) ?_
        refine zs_istore_n hΓ dX5_leave_76 (pc' := 77) rfl (L' := [some (zR _), some (zI _), some (zI _)]) rfl (by decide) rfl rfl ?_
        exact lp2 7 _ _ (by omega) hS (fun j => by rw [hr]; by_cases e : j < i; rw [if_pos e, if_pos (by omega)]; rw [if_neg e, if_neg (by omega)]) (by omega)
      · refine zs_aload_n hΓ dX5_leave_40 (pc' := 41) rfl rfl rfl ?_
        refine zs_getrE hΓ dX5_leave_41 (pc' := 44) rfl fX5_30 (i9 := 5) rfl rfl (tw_t hTw) (tw_p5 hTw) ?_
        refine zs_iload_n hΓ dX5_leave_44 (pc' := 45) rfl rfl rfl ?_
        refine zs_aload_n hΓ dX5_leave_45 (pc' := 46) rfl rfl rfl ?_
        refine zs_getrE hΓ dX5_leave_46 (pc' := 49) rfl fX5_30 (i9 := 5) rfl rfl (tw_t hTw) (tw_p5 hTw) ?_
        refine zs_iload_n hΓ dX5_leave_49 (pc' := 50) rfl rfl rfl ?_
        refine zs_bipush hΓ dX5_leave_50 (pc' := 52) rfl ⟨by decide, by decide⟩ ?_
        refine zs_iadd hΓ dX5_leave_52 (pc' := 53) rfl (by unfold inI; omega) ?_
        refine zs_iald hΓ dX5_leave_53 (pc' := 54) rfl (tw_a5 hTw) (by omega) (by omega) ?_
        refine zs_eqI (y := R (i + 6)) (by rw [hr, if_neg (by omega)]) ?_
        refine zs_iast hΓ dX5_leave_54 (pc' := 55) rfl (tw_a5 hTw) (show (0 : Int) ≤ 1 by decide) (by omega) (by omega) ?_
        refine zs_iinc hΓ dX5_leave_55 (pc' := 58) rfl (L' := [some (zR _), some (zI _), some (zI _)]) rfl (by unfold inI; omega) (by decide) rfl rfl ?_
        refine zs_goto hΓ dX5_leave_58 (tgt := 21) (by decide) ?_
        exact ih (i + 1) _ (by omega) (hS.set rfl) (fun j => by rw [gI_up]; unfold upR; by_cases e : j = i; rw [if_pos e, if_pos (by omega)]; unfold sLeave; rw [if_neg (by omega), if_pos (by omega), e]; rw [if_neg e, hr]; by_cases e2 : j < i; rw [if_pos e2, if_pos (by omega)]; rw [if_neg e2, if_neg (by omega)]) (by omega)
  refine zs_aload_n hΓ dX5_leave_0 (pc' := 1) rfl rfl rfl ?_
  refine zs_getrE hΓ dX5_leave_1 (pc' := 4) rfl fX5_30 (i9 := 5) rfl rfl (tw_t hTw) (tw_p5 hTw) ?_
  refine zs_sipush hΓ dX5_leave_4 (pc' := 7) rfl ⟨by decide, by decide⟩ ?_
  refine zs_dup2 hΓ dX5_leave_7 (pc' := 8) rfl  ?_
  refine zs_iald hΓ dX5_leave_8 (pc' := 9) rfl (tw_a5 hTw) (by omega) (by omega) ?_
  refine zs_eqI (y := R 157) (by rw [hR]) ?_
  refine zs_iconst hΓ dX5_leave_9 (pc' := 10) rfl ⟨by decide, by decide⟩ ?_
  refine zs_isub hΓ dX5_leave_10 (pc' := 11) rfl (by unfold inI; omega) ?_
  refine zs_iast hΓ dX5_leave_11 (pc' := 12) rfl (tw_a5 hTw) (show (0 : Int) ≤ 1 by decide) (by omega) (by omega) ?_
  refine zs_sipush hΓ dX5_leave_12 (pc' := 15) rfl ⟨by decide, by decide⟩ ?_
  refine zs_bipush hΓ dX5_leave_15 (pc' := 17) rfl ⟨by decide, by decide⟩ ?_
  refine zs_iload_n hΓ dX5_leave_17 (pc' := 18) rfl rfl rfl ?_
  refine zs_imul hΓ dX5_leave_18 (pc' := 19) rfl (by unfold inI; omega) ?_
  refine zs_iadd hΓ dX5_leave_19 (pc' := 20) rfl (by unfold inI; omega) ?_
  refine zs_istore_n hΓ dX5_leave_20 (pc' := 21) rfl (L' := [some (zR _), some (zI _), some (zI _)]) rfl (by decide) rfl rfl ?_
  exact lp1 361 _ _ (by omega) ((Same.rf _ _).set rfl) (fun j => by rw [gI_up, hR]; unfold upR; by_cases e : j = 157; rw [if_pos e, if_pos (by omega), e]; rfl; rw [if_neg e]; by_cases e2 : j < 158 + 6 * k; rw [if_pos e2]; unfold sLeave; rw [if_neg e, if_neg (by omega), if_neg (by omega)]; rw [if_neg e2]) (by omega)
