/-! THE TWIN, G: what a walker weighs -/
set_option maxRecDepth 100000
theorem con_X5_first (l : Launch) {h : zH} (hTw : TwT h) (kd c us : Int) (tx : zTx) (hX : TxR h 0 tx) (hc : 0 ≤ c ∧ c < 256) : Con l mX5_first 6 0 0 [zR (some (1, 0)), zI kd, zI c, zI us] h (rI fun x h' => x = txFirst (sA (gI h (1, 5)) (gI h (1, 0) 28) (gI h (1, 0) 29) c) kd us tx ∧ Same (fun a _ => a = (1, 33)) h h') zNo := by
  refine Con.ofS (by decide +kernel) (Nat.le_of_ble_eq_true rfl) fun Γ hΓ hno hwf hav => ?_
  have hΓ : Ctx Γ l cX5_first RX5 "first" 5 (Option.some Jvm.ClassFile.FieldType.int) _ _ 6 _ _ := hΓ
  show SS Γ 0 [some (zR _), some (zI _), some (zI _), some (zI _), none] [] _ 0 0
  obtain ⟨x1, x2, x3⟩ := hX
  have lp : ∀ (rem : zTx) (j : Nat) (h' : zH), Same (fun a _ => a = (1, 33)) h h' → (∀ (i : Nat) (q : zLn), rem[i]? = some q → tx[j + i]? = some q) → (j : Int) + rem.length = tx.length → txFirst (sA (gI h (1, 5)) (gI h (1, 0) 28) (gI h (1, 0) 29) c) kd us tx = txFirst (sA (gI h (1, 5)) (gI h (1, 0) 28) (gI h (1, 0) 29) c) kd us rem → SS Γ 3 [some (zR (some (1, 0))), some (zI kd), some (zI c), some (zI us), some (zI j)] [] h' 0 0 := by
    intro rem
    induction rem with
    | nil =>
      intro j h' hS hrem hj hrun
      have hTw := hTw.same hS
      rw [List.length_nil] at hj
      have e9 : gI h' (1, 9) 0 = tx.length := by rw [hS.2.2 _ _ (n1 (by decide))]; exact x1
      refine zs_iload hΓ dX5_first_3 (pc' := 5) rfl rfl ?_
      refine zs_aload_n hΓ dX5_first_5 (pc' := 6) rfl rfl rfl ?_
      refine zs_getrE hΓ dX5_first_6 (pc' := 9) rfl fX5_44 (i9 := 9) rfl rfl (tw_t hTw) (tw_p9 hTw) ?_
      refine zs_iconst hΓ dX5_first_9 (pc' := 10) rfl ⟨by decide, by decide⟩ ?_
      refine zs_iald hΓ dX5_first_10 (pc' := 11) rfl (tw_a9 hTw) (by omega) (by omega) ?_
      refine zs_eqI e9 ?_
      refine zs_icmpge hΓ dX5_first_11 (tgt := 49) (by decide) (pc' := 14) rfl (fun c_11 => ?_) (fun c_11 => False.elim (absurd c_11 (by omega)))
      refine zs_iload_n hΓ dX5_first_49 (pc' := 50) rfl rfl rfl ?_
      exact zs_iret hΓ dX5_first_50 rfl (by omega) (by omega) (⟨_, rfl, hrun.symm, hS⟩)
    | cons q rem ih =>
      intro j h' hS hrem hj hrun
      have hTw := hTw.same hS
      rw [List.length_cons] at hj
      have hq : tx[j]? = some q := hrem 0 q rfl
      have hL := x3 j q hq
      rw [show 16 * (0 : Int) + (j : Int) = j by omega] at hL
      have hL' := hL.same hS (fun k i k1 k2 => n1 (by omega))
      have e9 : gI h' (1, 9) 0 = tx.length := by rw [hS.2.2 _ _ (n1 (by decide))]; exact x1
      have r5 : gI h' (1, 5) = gI h (1, 5) := hS.row fun _ => n1 (by decide)
      have r28 : gI h' (1, 0) 28 = gI h (1, 0) 28 := hS.2.2 _ _ (n1 (by decide))
      have r29 : gI h' (1, 0) 29 = gI h (1, 0) 29 := hS.2.2 _ _ (n1 (by decide))
      rw [show txFirst (sA (gI h (1, 5)) (gI h (1, 0) 28) (gI h (1, 0) 29) c) kd us (q :: rem) = zIf (q.1 = kd ∧ cHolds (sA (gI h (1, 5)) (gI h (1, 0) 28) (gI h (1, 0) 29) c) q.2.2.2) q.2.2.1 (txFirst (sA (gI h (1, 5)) (gI h (1, 0) 28) (gI h (1, 0) 29) c) kd us rem) from rfl] at hrun
      have ih9 : ∀ h'', Same (fun a _ => a = (1, 33)) h h'' → ¬ (q.1 = kd ∧ cHolds (sA (gI h (1, 5)) (gI h (1, 0) 28) (gI h (1, 0) 29) c) q.2.2.2) → SS Γ 3 [some (zR (some (1, 0))), some (zI kd), some (zI c), some (zI us), some (zI (j + 1))] [] h'' 0 0 := fun h'' a1 a2 => ih (j + 1) h'' a1 (fun i s hi => by rw [show j + 1 + i = j + (i + 1) by omega]; exact hrem (i + 1) s hi) (by omega) (by rw [hrun, zIf_f a2])
      refine zs_iload hΓ dX5_first_3 (pc' := 5) rfl rfl ?_
      refine zs_aload_n hΓ dX5_first_5 (pc' := 6) rfl rfl rfl ?_
      refine zs_getrE hΓ dX5_first_6 (pc' := 9) rfl fX5_44 (i9 := 9) rfl rfl (tw_t hTw) (tw_p9 hTw) ?_
      refine zs_iconst hΓ dX5_first_9 (pc' := 10) rfl ⟨by decide, by decide⟩ ?_
      refine zs_iald hΓ dX5_first_10 (pc' := 11) rfl (tw_a9 hTw) (by omega) (by omega) ?_
      refine zs_eqI e9 ?_
      refine zs_icmpge hΓ dX5_first_11 (tgt := 49) (by decide) (pc' := 14) rfl (fun c_11 => False.elim (absurd c_11 (by omega))) (fun c_11 => ?_)
      refine zs_aload_n hΓ dX5_first_14 (pc' := 15) rfl rfl rfl ?_
      refine zs_getrE hΓ dX5_first_15 (pc' := 18) rfl fX5_47 (i9 := 10) rfl rfl (tw_t hTw) (tw_p10 hTw) ?_
      refine zs_iload hΓ dX5_first_18 (pc' := 20) rfl rfl ?_
      refine zs_iald hΓ dX5_first_20 (pc' := 21) rfl (tw_a10 hTw) (by omega) (by omega) ?_
      refine zs_eqI hL'.1 ?_
      refine zs_iload_n hΓ dX5_first_21 (pc' := 22) rfl rfl rfl ?_
      refine zs_icmpne hΓ dX5_first_22 (tgt := 43) (by decide) (pc' := 25) rfl (fun c_22 => ?_) (fun c_22 => ?_)
      · refine zs_iinc hΓ dX5_first_43 (pc' := 46) rfl (L' := [some (zR _), some (zI _), some (zI _), some (zI _), some (zI _)]) rfl (by unfold inI; omega) (by decide) rfl rfl ?_
        refine zs_goto hΓ dX5_first_46 (tgt := 3) (by decide) ?_
        exact ih9 _ hS (fun z => c_22 z.1)
      · refine zs_aload_n hΓ dX5_first_25 (pc' := 26) rfl rfl rfl ?_
        refine zs_iload hΓ dX5_first_26 (pc' := 28) rfl rfl ?_
        refine zs_iload_n hΓ dX5_first_28 (pc' := 29) rfl rfl rfl ?_
        refine zs_callVI hΓ dX5_first_29 (pc' := 32) rfl kX5_337 (con_X5_holds l hTw 0 j c j q (by decide) (by omega) (by omega) hL' hc) (tw_t hTw) rfl rfl rfl (Nat.le_of_ble_eq_true rfl) (by omega) (by decide) (by omega) (by omega) (fun x_29 h_29 q_29 k_29 => ?_) (fun _ _ q _ => False.elim q)
        obtain ⟨rfl, q9⟩ := q_29
        rw [r5, r28, r29]
        have hS := hS.tr q9
        have hTw := hTw.same q9
        refine zs_ifeq hΓ dX5_first_32 (tgt := 43) (by decide) (pc' := 35) rfl (fun c_32 => ?_) (fun c_32 => ?_)
        · try have c_32 := iB_eq c_32
          refine zs_iinc hΓ dX5_first_43 (pc' := 46) rfl (L' := [some (zR _), some (zI _), some (zI _), some (zI _), some (zI _)]) rfl (by unfold inI; omega) (by decide) rfl rfl ?_
          refine zs_goto hΓ dX5_first_46 (tgt := 3) (by decide) ?_
          exact ih9 _ hS (fun z => c_32 z.2)
        · try have c_32 := iB_ne c_32
          refine zs_aload_n hΓ dX5_first_35 (pc' := 36) rfl rfl rfl ?_
          refine zs_getrE hΓ dX5_first_36 (pc' := 39) rfl fX5_53 (i9 := 12) rfl rfl (tw_t hTw) (tw_p12 hTw) ?_
          refine zs_iload hΓ dX5_first_39 (pc' := 41) rfl rfl ?_
          refine zs_iald hΓ dX5_first_41 (pc' := 42) rfl (tw_a12 hTw) (by omega) (by omega) ?_
          refine zs_eqI (y := q.2.2.1) ((q9.2.2 _ _ (n1 (by decide))).trans hL'.2.2.1) ?_
          exact zs_iret hΓ dX5_first_42 rfl (by omega) (by omega) (⟨_, rfl, by rw [hrun, zIf_t ⟨c_22, c_32⟩], hS⟩)
  refine zs_iconst hΓ dX5_first_0 (pc' := 1) rfl ⟨by decide, by decide⟩ ?_
  refine zs_istore hΓ dX5_first_1 (pc' := 3) rfl (L' := [some (zR _), some (zI _), some (zI _), some (zI _), some (zI _)]) (by decide) rfl rfl ?_
  exact lp tx 0 h (Same.rf _ _) (fun i q hi => by rw [Nat.zero_add]; exact hi) (by omega) rfl
theorem con_X5_mayNot (l : Launch) {h : zH} (hTw : TwT h) (t c : Int) (ht : 0 ≤ t ∧ t < 8) (e36 : gI h (1, 0) 36 = t) (tx : zTx) (hX : TxR h t tx) (hc : 0 ≤ c ∧ c < 256) : Con l mX5_mayNot 6 0 0 [zR (some (1, 0)), zI c] h (rI fun x h' => x = iB (txNever (sA (gI h (1, 5)) (gI h (1, 0) 28) (gI h (1, 0) 29) c) tx) ∧ Same (fun a _ => a = (1, 33)) h h') zNo := by
  refine Con.ofS (by decide +kernel) (Nat.le_of_ble_eq_true rfl) fun Γ hΓ hno hwf hav => ?_
  have hΓ : Ctx Γ l cX5_mayNot RX5 "mayNot" 3 (Option.some Jvm.ClassFile.FieldType.boolean) _ _ 6 _ _ := hΓ
  show SS Γ 0 [some (zR _), some (zI _), none] [] _ 0 0
  obtain ⟨x1, x2, x3⟩ := hX
  have lp : ∀ (rem : zTx) (j : Nat) (h' : zH), Same (fun a _ => a = (1, 33)) h h' → (∀ (i : Nat) (q : zLn), rem[i]? = some q → tx[j + i]? = some q) → (j : Int) + rem.length = tx.length → (txNever (sA (gI h (1, 5)) (gI h (1, 0) 28) (gI h (1, 0) 29) c) tx ↔ txNever (sA (gI h (1, 5)) (gI h (1, 0) 28) (gI h (1, 0) 29) c) rem) → SS Γ 8 [some (zR (some (1, 0))), some (zI c), some (zI (16 * t + j))] [] h' 0 0 := by
    intro rem
    induction rem with
    | nil =>
      intro j h' hS hrem hj hrun
      have hTw := hTw.same hS
      rw [List.length_nil] at hj
      have e9 : gI h' (1, 9) t = tx.length := by rw [hS.2.2 _ _ (n1 (by decide))]; exact x1
      have e36 : gI h' (1, 0) 36 = t := by rw [hS.2.2 _ _ (n1 (by decide))]; exact e36
      refine zs_iload_n hΓ dX5_mayNot_8 (pc' := 9) rfl rfl rfl ?_
      refine zs_bipush hΓ dX5_mayNot_9 (pc' := 11) rfl ⟨by decide, by decide⟩ ?_
      refine zs_aload_n hΓ dX5_mayNot_11 (pc' := 12) rfl rfl rfl ?_
      refine zs_geti hΓ dX5_mayNot_12 (pc' := 15) rfl fX5_378 (i9 := 36) rfl rfl (tw_t hTw) ?_
      refine zs_eqI e36 ?_
      refine zs_imul hΓ dX5_mayNot_15 (pc' := 16) rfl (by unfold inI; omega) ?_
      refine zs_aload_n hΓ dX5_mayNot_16 (pc' := 17) rfl rfl rfl ?_
      refine zs_getrE hΓ dX5_mayNot_17 (pc' := 20) rfl fX5_44 (i9 := 9) rfl rfl (tw_t hTw) (tw_p9 hTw) ?_
      refine zs_aload_n hΓ dX5_mayNot_20 (pc' := 21) rfl rfl rfl ?_
      refine zs_geti hΓ dX5_mayNot_21 (pc' := 24) rfl fX5_378 (i9 := 36) rfl rfl (tw_t hTw) ?_
      refine zs_eqI e36 ?_
      refine zs_iald hΓ dX5_mayNot_24 (pc' := 25) rfl (tw_a9 hTw) (by omega) (by omega) ?_
      refine zs_eqI e9 ?_
      refine zs_iadd hΓ dX5_mayNot_25 (pc' := 26) rfl (by unfold inI; omega) ?_
      refine zs_icmpge hΓ dX5_mayNot_26 (tgt := 57) (by decide) (pc' := 29) rfl (fun c_26 => ?_) (fun c_26 => False.elim (absurd c_26 (by omega)))
      refine zs_iconst hΓ dX5_mayNot_57 (pc' := 58) rfl ⟨by decide, by decide⟩ ?_
      exact zs_zret hΓ dX5_mayNot_58 rfl (by first | omega | exact iB_01 _) (by omega) (by omega) (⟨_, rfl, iB_f (fun z => by obtain ⟨q, hq, -⟩ := hrun.mp z; cases hq), hS⟩)
    | cons q rem ih =>
      intro j h' hS hrem hj hrun
      have hTw := hTw.same hS
      rw [List.length_cons] at hj
      have hq : tx[j]? = some q := hrem 0 q rfl
      have hL := x3 j q hq
      have hL' := hL.same hS (fun k i k1 k2 => n1 (by omega))
      have e9 : gI h' (1, 9) t = tx.length := by rw [hS.2.2 _ _ (n1 (by decide))]; exact x1
      have e36 : gI h' (1, 0) 36 = t := by rw [hS.2.2 _ _ (n1 (by decide))]; exact e36
      have r5 : gI h' (1, 5) = gI h (1, 5) := hS.row fun _ => n1 (by decide)
      have r28 : gI h' (1, 0) 28 = gI h (1, 0) 28 := hS.2.2 _ _ (n1 (by decide))
      have r29 : gI h' (1, 0) 29 = gI h (1, 0) 29 := hS.2.2 _ _ (n1 (by decide))
      have ih9 : ∀ h'', Same (fun a _ => a = (1, 33)) h h'' → ¬ (q.1 = 6 ∧ cHolds (sA (gI h (1, 5)) (gI h (1, 0) 28) (gI h (1, 0) 29) c) q.2.2.2) → SS Γ 8 [some (zR (some (1, 0))), some (zI c), some (zI (16 * t + j + 1))] [] h'' 0 0 := fun h'' a1 a2 => by
        have := ih (j + 1) h'' a1 (fun i s hi => by rw [show j + 1 + i = j + (i + 1) by omega]; exact hrem (i + 1) s hi) (by omega) (hrun.trans ⟨fun ⟨x, d1, d2⟩ => by rcases List.mem_cons.mp d1 with e | e; exact absurd (e ▸ d2) a2; exact ⟨x, e, d2⟩, fun ⟨x, d1, d2⟩ => ⟨x, List.mem_cons_of_mem _ d1, d2⟩⟩)
        rw [show 16 * t + ((j + 1 : Nat) : Int) = 16 * t + j + 1 by omega] at this
        exact this
      refine zs_iload_n hΓ dX5_mayNot_8 (pc' := 9) rfl rfl rfl ?_
      refine zs_bipush hΓ dX5_mayNot_9 (pc' := 11) rfl ⟨by decide, by decide⟩ ?_
      refine zs_aload_n hΓ dX5_mayNot_11 (pc' := 12) rfl rfl rfl ?_
      refine zs_geti hΓ dX5_mayNot_12 (pc' := 15) rfl fX5_378 (i9 := 36) rfl rfl (tw_t hTw) ?_
      refine zs_eqI e36 ?_
      refine zs_imul hΓ dX5_mayNot_15 (pc' := 16) rfl (by unfold inI; omega) ?_
      refine zs_aload_n hΓ dX5_mayNot_16 (pc' := 17) rfl rfl rfl ?_
      refine zs_getrE hΓ dX5_mayNot_17 (pc' := 20) rfl fX5_44 (i9 := 9) rfl rfl (tw_t hTw) (tw_p9 hTw) ?_
      refine zs_aload_n hΓ dX5_mayNot_20 (pc' := 21) rfl rfl rfl ?_
      refine zs_geti hΓ dX5_mayNot_21 (pc' := 24) rfl fX5_378 (i9 := 36) rfl rfl (tw_t hTw) ?_
      refine zs_eqI e36 ?_
      refine zs_iald hΓ dX5_mayNot_24 (pc' := 25) rfl (tw_a9 hTw) (by omega) (by omega) ?_
      refine zs_eqI e9 ?_
      refine zs_iadd hΓ dX5_mayNot_25 (pc' := 26) rfl (by unfold inI; omega) ?_
      refine zs_icmpge hΓ dX5_mayNot_26 (tgt := 57) (by decide) (pc' := 29) rfl (fun c_26 => False.elim (absurd c_26 (by omega))) (fun c_26 => ?_)
      refine zs_aload_n hΓ dX5_mayNot_29 (pc' := 30) rfl rfl rfl ?_
      refine zs_getrE hΓ dX5_mayNot_30 (pc' := 33) rfl fX5_47 (i9 := 10) rfl rfl (tw_t hTw) (tw_p10 hTw) ?_
      refine zs_iload_n hΓ dX5_mayNot_33 (pc' := 34) rfl rfl rfl ?_
      refine zs_iald hΓ dX5_mayNot_34 (pc' := 35) rfl (tw_a10 hTw) (by omega) (by omega) ?_
      refine zs_eqI hL'.1 ?_
      refine zs_bipush hΓ dX5_mayNot_35 (pc' := 37) rfl ⟨by decide, by decide⟩ ?_
      refine zs_icmpne hΓ dX5_mayNot_37 (tgt := 51) (by decide) (pc' := 40) rfl (fun c_37 => ?_) (fun c_37 => ?_)
      · refine zs_iinc hΓ dX5_mayNot_51 (pc' := 54) rfl (L' := [some (zR _), some (zI _), some (zI _)]) rfl (by unfold inI; omega) (by decide) rfl rfl ?_
        refine zs_goto hΓ dX5_mayNot_54 (tgt := 8) (by decide) ?_
        exact ih9 _ hS (fun z => c_37 z.1)
      · refine zs_aload_n hΓ dX5_mayNot_40 (pc' := 41) rfl rfl rfl ?_
        refine zs_iload_n hΓ dX5_mayNot_41 (pc' := 42) rfl rfl rfl ?_
        refine zs_iload_n hΓ dX5_mayNot_42 (pc' := 43) rfl rfl rfl ?_
        refine zs_callVI hΓ dX5_mayNot_43 (pc' := 46) rfl kX5_337 (con_X5_holds l hTw t _ c j q ht (by omega) rfl hL' hc) (tw_t hTw) rfl rfl rfl (Nat.le_of_ble_eq_true rfl) (by omega) (by decide) (by omega) (by omega) (fun x_43 h_43 q_43 k_43 => ?_) (fun _ _ q _ => False.elim q)
        obtain ⟨rfl, q9⟩ := q_43
        rw [r5, r28, r29]
        have hS := hS.tr q9
        have hTw := hTw.same q9
        refine zs_ifeq hΓ dX5_mayNot_46 (tgt := 51) (by decide) (pc' := 49) rfl (fun c_46 => ?_) (fun c_46 => ?_)
        · try have c_46 := iB_eq c_46
          refine zs_iinc hΓ dX5_mayNot_51 (pc' := 54) rfl (L' := [some (zR _), some (zI _), some (zI _)]) rfl (by unfold inI; omega) (by decide) rfl rfl ?_
          refine zs_goto hΓ dX5_mayNot_54 (tgt := 8) (by decide) ?_
          exact ih9 _ hS (fun z => c_46 z.2)
        · try have c_46 := iB_ne c_46
          refine zs_iconst hΓ dX5_mayNot_49 (pc' := 50) rfl ⟨by decide, by decide⟩ ?_
          exact zs_zret hΓ dX5_mayNot_50 rfl (by first | omega | exact iB_01 _) (by omega) (by omega) (⟨_, rfl, iB_t (hrun.mpr ⟨q, List.mem_cons_self, c_37, c_46⟩), hS⟩)
  refine zs_bipush hΓ dX5_mayNot_0 (pc' := 2) rfl ⟨by decide, by decide⟩ ?_
  refine zs_aload_n hΓ dX5_mayNot_2 (pc' := 3) rfl rfl rfl ?_
  refine zs_geti hΓ dX5_mayNot_3 (pc' := 6) rfl fX5_378 (i9 := 36) rfl rfl (tw_t hTw) ?_
  refine zs_eqI e36 ?_
  refine zs_imul hΓ dX5_mayNot_6 (pc' := 7) rfl (by unfold inI; omega) ?_
  refine zs_istore_n hΓ dX5_mayNot_7 (pc' := 8) rfl (L' := [some (zR _), some (zI _), some (zI _)]) rfl (by decide) rfl rfl ?_
  have h9 := lp tx 0 h (Same.rf _ _) (fun i q hi => by rw [Nat.zero_add]; exact hi) (by omega) Iff.rfl
  rw [show 16 * t + ((0 : Nat) : Int) = 16 * t by omega] at h9
  exact h9
