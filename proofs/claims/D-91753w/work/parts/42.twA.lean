/-! THE TWIN, A: small methods -/
set_option maxRecDepth 100000
theorem con_X5_isIn (l : Launch) {h : zH} (v lo hi : Int) : Con l mX5_isIn 1 0 0 [zI v, zI lo, zI hi] h (rI fun x h' => x = iB (lo ≤ v ∧ v ≤ hi) ∧ h' = h) zNo := by
  refine Con.ofS (by decide +kernel) (Nat.le_of_ble_eq_true rfl) fun Γ hΓ hno hwf hav => ?_
  have hΓ : Ctx Γ l cX5_isIn RX5 "isIn" 3 (Option.some Jvm.ClassFile.FieldType.boolean) _ _ 1 _ _ := hΓ
  show SS Γ 0 [some (zI _), some (zI _), some (zI _)] [] _ 0 0
  refine zs_iload_n hΓ dX5_isIn_0 (pc' := 1) rfl rfl rfl ?_
  refine zs_iload_n hΓ dX5_isIn_1 (pc' := 2) rfl rfl rfl ?_
  refine zs_icmplt hΓ dX5_isIn_2 (tgt := 14) (by decide) (pc' := 5) rfl (fun c_2 => ?_) (fun c_2 => ?_)
  · refine zs_iconst hΓ dX5_isIn_14 (pc' := 15) rfl ⟨by decide, by decide⟩ ?_
    exact zs_zret hΓ dX5_isIn_15 rfl (by first | omega | exact iB_01 _) (by omega) (by omega) (by first | exact ⟨_, rfl, rfl, rfl⟩ | exact ⟨_, rfl, iB_t (by omega), rfl⟩ | exact ⟨_, rfl, iB_f (by omega), rfl⟩)
  · refine zs_iload_n hΓ dX5_isIn_5 (pc' := 6) rfl rfl rfl ?_
    refine zs_iload_n hΓ dX5_isIn_6 (pc' := 7) rfl rfl rfl ?_
    refine zs_icmpgt hΓ dX5_isIn_7 (tgt := 14) (by decide) (pc' := 10) rfl (fun c_7 => ?_) (fun c_7 => ?_)
    · refine zs_iconst hΓ dX5_isIn_14 (pc' := 15) rfl ⟨by decide, by decide⟩ ?_
      exact zs_zret hΓ dX5_isIn_15 rfl (by first | omega | exact iB_01 _) (by omega) (by omega) (by first | exact ⟨_, rfl, rfl, rfl⟩ | exact ⟨_, rfl, iB_t (by omega), rfl⟩ | exact ⟨_, rfl, iB_f (by omega), rfl⟩)
    · refine zs_iconst hΓ dX5_isIn_10 (pc' := 11) rfl ⟨by decide, by decide⟩ ?_
      refine zs_goto hΓ dX5_isIn_11 (tgt := 15) (by decide) ?_
      exact zs_zret hΓ dX5_isIn_15 rfl (by first | omega | exact iB_01 _) (by omega) (by omega) (by first | exact ⟨_, rfl, rfl, rfl⟩ | exact ⟨_, rfl, iB_t (by omega), rfl⟩ | exact ⟨_, rfl, iB_f (by omega), rfl⟩)
theorem con_X5_plain (l : Launch) {h : zH} (v : Int) (hv : -1000000 ≤ v ∧ v ≤ 1000000) : Con l mX5_plain 1 0 0 [zI v] h (rI fun x h' => x = sAbs v ∧ h' = h) zNo := by
  refine Con.ofS (by decide +kernel) (Nat.le_of_ble_eq_true rfl) fun Γ hΓ hno hwf hav => ?_
  have hΓ : Ctx Γ l cX5_plain RX5 "plain" 1 (Option.some Jvm.ClassFile.FieldType.int) _ _ 1 _ _ := hΓ
  show SS Γ 0 [some (zI _)] [] _ 0 0
  refine zs_iload_n hΓ dX5_plain_0 (pc' := 1) rfl rfl rfl ?_
  refine zs_ifge hΓ dX5_plain_1 (tgt := 9) (by decide) (pc' := 4) rfl (fun c_1 => ?_) (fun c_1 => ?_)
  · refine zs_iload_n hΓ dX5_plain_9 (pc' := 10) rfl rfl rfl ?_
    exact zs_iret hΓ dX5_plain_10 rfl (by omega) (by omega) (⟨_, rfl, by unfold sAbs; omega, rfl⟩)
  · refine zs_iload_n hΓ dX5_plain_4 (pc' := 5) rfl rfl rfl ?_
    refine zs_ineg hΓ dX5_plain_5 (pc' := 6) rfl (by unfold inI; omega) ?_
    refine zs_goto hΓ dX5_plain_6 (tgt := 10) (by decide) ?_
    exact zs_iret hΓ dX5_plain_10 rfl (by omega) (by omega) (⟨_, rfl, by unfold sAbs; omega, rfl⟩)
theorem con_X5_cells (l : Launch) {h : zH} (hTw : TwT h) (hw : RW (gI h (1, 5))) : Con l mX5_cells 1 0 0 [zR (some (1, 0))] h (rI fun x h' => x = gI h (1, 5) 0 * gI h (1, 5) 1 ∧ h' = h) zNo := by
  refine Con.ofS (by decide +kernel) (Nat.le_of_ble_eq_true rfl) fun Γ hΓ hno hwf hav => ?_
  have hΓ : Ctx Γ l cX5_cells RX5 "cells" 1 (Option.some Jvm.ClassFile.FieldType.int) _ _ 1 _ _ := hΓ
  show SS Γ 0 [some (zR _)] [] _ 0 0
  refine zs_aload_n hΓ dX5_cells_0 (pc' := 1) rfl rfl rfl ?_
  refine zs_getrE hΓ dX5_cells_1 (pc' := 4) rfl fX5_30 (i9 := 5) rfl rfl (tw_t hTw) (tw_p5 hTw) ?_
  refine zs_iconst hΓ dX5_cells_4 (pc' := 5) rfl ⟨by decide, by decide⟩ ?_
  refine zs_iald hΓ dX5_cells_5 (pc' := 6) rfl (tw_a5 hTw) (by omega) (by omega) ?_
  refine zs_aload_n hΓ dX5_cells_6 (pc' := 7) rfl rfl rfl ?_
  refine zs_getrE hΓ dX5_cells_7 (pc' := 10) rfl fX5_30 (i9 := 5) rfl rfl (tw_t hTw) (tw_p5 hTw) ?_
  refine zs_iconst hΓ dX5_cells_10 (pc' := 11) rfl ⟨by decide, by decide⟩ ?_
  refine zs_iald hΓ dX5_cells_11 (pc' := 12) rfl (tw_a5 hTw) (by omega) (by omega) ?_
  refine zs_imul hΓ dX5_cells_12 (pc' := 13) rfl (inI_mul16 hw.1 hw.2) ?_
  exact zs_iret hΓ dX5_cells_13 rfl (by omega) (by omega) (⟨_, rfl, rfl, rfl⟩)
theorem con_X5_octet (l : Launch) {h : zH} (hTw : TwT h) (k : Int) (hk : 0 ≤ k ∧ k < 440) : Con l mX5_octet 1 0 0 [zR (some (1, 0)), zI k] h (rI fun x h' => x = gI h (1, 1) k % 256 ∧ h' = h) zNo := by
  refine Con.ofS (by decide +kernel) (Nat.le_of_ble_eq_true rfl) fun Γ hΓ hno hwf hav => ?_
  have hΓ : Ctx Γ l cX5_octet RX5 "octet" 2 (Option.some Jvm.ClassFile.FieldType.int) _ _ 1 _ _ := hΓ
  show SS Γ 0 [some (zR _), some (zI _)] [] _ 0 0
  refine zs_aload_n hΓ dX5_octet_0 (pc' := 1) rfl rfl rfl ?_
  refine zs_getrE hΓ dX5_octet_1 (pc' := 4) rfl fX5_14 (i9 := 1) rfl rfl (tw_t hTw) (tw_p1 hTw) ?_
  refine zs_iload_n hΓ dX5_octet_4 (pc' := 5) rfl rfl rfl ?_
  refine zs_bald hΓ dX5_octet_5 (pc' := 6) rfl (tw_a1 hTw) (by omega) (by omega) ?_
  refine zs_sipush hΓ dX5_octet_6 (pc' := 9) rfl ⟨by decide, by decide⟩ ?_
  refine zs_iandM 8 hΓ dX5_octet_9 (pc' := 10) rfl (by decide) rfl rfl ?_
  exact zs_iret hΓ dX5_octet_10 rfl (by omega) (by omega) (⟨_, rfl, rfl, rfl⟩)
theorem con_X5_of (l : Launch) {h : zH} (hTw : TwT h) (c w : Int) (hc : 0 ≤ c ∧ c < 256) (hw : 0 ≤ w ∧ w < 7) : Con l mX5_of 1 0 0 [zR (some (1, 0)), zI c, zI w] h (rI fun x h' => x = cel (gI h (1, 5)) c w ∧ h' = h) zNo := by
  refine Con.ofS (by decide +kernel) (Nat.le_of_ble_eq_true rfl) fun Γ hΓ hno hwf hav => ?_
  have hΓ : Ctx Γ l cX5_of RX5 "of" 3 (Option.some Jvm.ClassFile.FieldType.int) _ _ 1 _ _ := hΓ
  show SS Γ 0 [some (zR _), some (zI _), some (zI _)] [] _ 0 0
  refine zs_aload_n hΓ dX5_of_0 (pc' := 1) rfl rfl rfl ?_
  refine zs_getrE hΓ dX5_of_1 (pc' := 4) rfl fX5_30 (i9 := 5) rfl rfl (tw_t hTw) (tw_p5 hTw) ?_
  refine zs_sipush hΓ dX5_of_4 (pc' := 7) rfl ⟨by decide, by decide⟩ ?_
  refine zs_bipush hΓ dX5_of_7 (pc' := 9) rfl ⟨by decide, by decide⟩ ?_
  refine zs_iload_n hΓ dX5_of_9 (pc' := 10) rfl rfl rfl ?_
  refine zs_imul hΓ dX5_of_10 (pc' := 11) rfl (by unfold inI; omega) ?_
  refine zs_iadd hΓ dX5_of_11 (pc' := 12) rfl (by unfold inI; omega) ?_
  refine zs_iload_n hΓ dX5_of_12 (pc' := 13) rfl rfl rfl ?_
  refine zs_iadd hΓ dX5_of_13 (pc' := 14) rfl (by unfold inI; omega) ?_
  refine zs_iald hΓ dX5_of_14 (pc' := 15) rfl (tw_a5 hTw) (by omega) (by omega) ?_
  exact zs_iret hΓ dX5_of_15 rfl (by omega) (by omega) (⟨_, rfl, rfl, rfl⟩)
theorem con_X5_set (l : Launch) {h : zH} (hTw : TwT h) (c w v : Int) (hc : 0 ≤ c ∧ c < 256) (hw : 0 ≤ w ∧ w < 7) : Con l mX5_set 1 0 0 [zR (some (1, 0)), zI c, zI w, zI v] h (rV fun h' => h' = setI h (1, 5) (522 + 7 * c + w) v) zNo := by
  refine Con.ofS (by decide +kernel) (Nat.le_of_ble_eq_true rfl) fun Γ hΓ hno hwf hav => ?_
  have hΓ : Ctx Γ l cX5_set RX5 "set" 4 (Option.none : Option Jvm.ClassFile.FieldType) _ _ 1 _ _ := hΓ
  show SS Γ 0 [some (zR _), some (zI _), some (zI _), some (zI _)] [] _ 0 0
  refine zs_aload_n hΓ dX5_set_0 (pc' := 1) rfl rfl rfl ?_
  refine zs_getrE hΓ dX5_set_1 (pc' := 4) rfl fX5_30 (i9 := 5) rfl rfl (tw_t hTw) (tw_p5 hTw) ?_
  refine zs_sipush hΓ dX5_set_4 (pc' := 7) rfl ⟨by decide, by decide⟩ ?_
  refine zs_bipush hΓ dX5_set_7 (pc' := 9) rfl ⟨by decide, by decide⟩ ?_
  refine zs_iload_n hΓ dX5_set_9 (pc' := 10) rfl rfl rfl ?_
  refine zs_imul hΓ dX5_set_10 (pc' := 11) rfl (by unfold inI; omega) ?_
  refine zs_iadd hΓ dX5_set_11 (pc' := 12) rfl (by unfold inI; omega) ?_
  refine zs_iload_n hΓ dX5_set_12 (pc' := 13) rfl rfl rfl ?_
  refine zs_iadd hΓ dX5_set_13 (pc' := 14) rfl (by unfold inI; omega) ?_
  refine zs_iload_n hΓ dX5_set_14 (pc' := 15) rfl rfl rfl ?_
  refine zs_iast hΓ dX5_set_15 (pc' := 16) rfl (tw_a5 hTw) (by decide) (by omega) (by omega) ?_
  exact zs_vret hΓ dX5_set_16 rfl (by omega) (by omega) (⟨rfl, rfl⟩)
theorem con_X5_east (l : Launch) {h : zH} (d : Int) (hd : 0 ≤ d ∧ d < 8) : Con l mX5_east 1 0 0 [zI d] h (rI fun x h' => x = sEast d ∧ h' = h) zNo := by
  refine Con.ofS (by decide +kernel) (Nat.le_of_ble_eq_true rfl) fun Γ hΓ hno hwf hav => ?_
  have hΓ : Ctx Γ l cX5_east RX5 "east" 1 (Option.some Jvm.ClassFile.FieldType.int) _ _ 1 _ _ := hΓ
  show SS Γ 0 [some (zI _)] [] _ 0 0
  refine zs_iload_n hΓ dX5_east_0 (pc' := 1) rfl rfl rfl ?_
  refine zs_iconst hΓ dX5_east_1 (pc' := 2) rfl ⟨by decide, by decide⟩ ?_
  refine zs_irem hΓ dX5_east_2 (pc' := 3) rfl (by omega) (by omega) ?_
  refine zs_ifne hΓ dX5_east_3 (tgt := 10) (by decide) (pc' := 6) rfl (fun c_3 => ?_) (fun c_3 => ?_)
  · refine zs_iload_n hΓ dX5_east_10 (pc' := 11) rfl rfl rfl ?_
    refine zs_iconst hΓ dX5_east_11 (pc' := 12) rfl ⟨by decide, by decide⟩ ?_
    refine zs_icmpge hΓ dX5_east_12 (tgt := 19) (by decide) (pc' := 15) rfl (fun c_12 => ?_) (fun c_12 => ?_)
    · refine zs_iconst hΓ dX5_east_19 (pc' := 20) rfl ⟨by decide, by decide⟩ ?_
      exact zs_iret hΓ dX5_east_20 rfl (by omega) (by omega) (⟨_, rfl, (by unfold sEast; omega), rfl⟩)
    · refine zs_iconst hΓ dX5_east_15 (pc' := 16) rfl ⟨by decide, by decide⟩ ?_
      refine zs_goto hΓ dX5_east_16 (tgt := 20) (by decide) ?_
      exact zs_iret hΓ dX5_east_20 rfl (by omega) (by omega) (⟨_, rfl, (by unfold sEast; omega), rfl⟩)
  · refine zs_iconst hΓ dX5_east_6 (pc' := 7) rfl ⟨by decide, by decide⟩ ?_
    refine zs_goto hΓ dX5_east_7 (tgt := 20) (by decide) ?_
    exact zs_iret hΓ dX5_east_20 rfl (by omega) (by omega) (⟨_, rfl, (by unfold sEast; omega), rfl⟩)
theorem con_X5_south (l : Launch) {h : zH} (d : Int) (hd : 0 ≤ d ∧ d < 8) : Con l mX5_south 2 0 0 [zI d] h (rI fun x h' => x = sSouth d ∧ h' = h) zNo := by
  refine Con.ofS (by decide +kernel) (Nat.le_of_ble_eq_true rfl) fun Γ hΓ hno hwf hav => ?_
  have hΓ : Ctx Γ l cX5_south RX5 "south" 1 (Option.some Jvm.ClassFile.FieldType.int) _ _ 2 _ _ := hΓ
  show SS Γ 0 [some (zI _)] [] _ 0 0
  refine zs_iload_n hΓ dX5_south_0 (pc' := 1) rfl rfl rfl ?_
  refine zs_iconst hΓ dX5_south_1 (pc' := 2) rfl ⟨by decide, by decide⟩ ?_
  refine zs_irem hΓ dX5_south_2 (pc' := 3) rfl (by omega) (by omega) ?_
  refine zs_iconst hΓ dX5_south_3 (pc' := 4) rfl ⟨by decide, by decide⟩ ?_
  refine zs_icmpne hΓ dX5_south_4 (tgt := 11) (by decide) (pc' := 7) rfl (fun c_4 => ?_) (fun c_4 => ?_)
  · refine zs_iload_n hΓ dX5_south_11 (pc' := 12) rfl rfl rfl ?_
    refine zs_iconst hΓ dX5_south_12 (pc' := 13) rfl ⟨by decide, by decide⟩ ?_
    refine zs_iconst hΓ dX5_south_13 (pc' := 14) rfl ⟨by decide, by decide⟩ ?_
    refine zs_callSIP hΓ dX5_south_14 (pc' := 17) rfl kX5_132 (con_X5_isIn l _ _ _) rfl rfl (Nat.le_of_ble_eq_true rfl) (by omega) (by decide) (by omega) (by omega) ?_ (fun _ _ q _ => False.elim q)
    refine zs_ifeq hΓ dX5_south_17 (tgt := 24) (by decide) (pc' := 20) rfl (fun c_17 => ?_) (fun c_17 => ?_)
    · try have c_17 := iB_eq c_17
      refine zs_iconst hΓ dX5_south_24 (pc' := 25) rfl ⟨by decide, by decide⟩ ?_
      exact zs_iret hΓ dX5_south_25 rfl (by omega) (by omega) (⟨_, rfl, (by unfold sSouth; omega), rfl⟩)
    · try have c_17 := iB_ne c_17
      refine zs_iconst hΓ dX5_south_20 (pc' := 21) rfl ⟨by decide, by decide⟩ ?_
      refine zs_goto hΓ dX5_south_21 (tgt := 25) (by decide) ?_
      exact zs_iret hΓ dX5_south_25 rfl (by omega) (by omega) (⟨_, rfl, (by unfold sSouth; omega), rfl⟩)
  · refine zs_iconst hΓ dX5_south_7 (pc' := 8) rfl ⟨by decide, by decide⟩ ?_
    refine zs_goto hΓ dX5_south_8 (tgt := 25) (by decide) ?_
    exact zs_iret hΓ dX5_south_25 rfl (by omega) (by omega) (⟨_, rfl, (by unfold sSouth; omega), rfl⟩)
theorem con_X5_isCell (l : Launch) {h : zH} (hTw : TwT h) (hw : RW (gI h (1, 5))) (c : Int) : Con l mX5_isCell 2 0 0 [zR (some (1, 0)), zI c] h (rI fun x h' => x = iB (sIsCell (gI h (1, 5)) c) ∧ h' = h) zNo := by
  refine Con.ofS (by decide +kernel) (Nat.le_of_ble_eq_true rfl) fun Γ hΓ hno hwf hav => ?_
  have hΓ : Ctx Γ l cX5_isCell RX5 "isCell" 2 (Option.some Jvm.ClassFile.FieldType.boolean) _ _ 2 _ _ := hΓ
  show SS Γ 0 [some (zR _), some (zI _)] [] _ 0 0
  have h9 := hw.c
  refine zs_iload_n hΓ dX5_isCell_0 (pc' := 1) rfl rfl rfl ?_
  refine zs_iconst hΓ dX5_isCell_1 (pc' := 2) rfl ⟨by decide, by decide⟩ ?_
  refine zs_aload_n hΓ dX5_isCell_2 (pc' := 3) rfl rfl rfl ?_
  refine zs_callVIP hΓ dX5_isCell_3 (pc' := 6) rfl kX5_128 (con_X5_cells l hTw hw) (tw_t hTw) rfl rfl rfl (Nat.le_of_ble_eq_true rfl) (by omega) (by decide) (by omega) (by omega) ?_ (fun _ _ q _ => False.elim q)
  refine zs_iconst hΓ dX5_isCell_6 (pc' := 7) rfl ⟨by decide, by decide⟩ ?_
  refine zs_isub hΓ dX5_isCell_7 (pc' := 8) rfl (by unfold inI; omega) ?_
  refine zs_callSIP hΓ dX5_isCell_8 (pc' := 11) rfl kX5_132 (con_X5_isIn l _ _ _) rfl rfl (Nat.le_of_ble_eq_true rfl) (by omega) (by decide) (by omega) (by omega) ?_ (fun _ _ q _ => False.elim q)
  exact zs_zret hΓ dX5_isCell_11 rfl (by first | omega | exact iB_01 _) (by omega) (by omega) (by first | exact ⟨_, rfl, rfl, rfl⟩ | exact ⟨_, rfl, iB_t (by omega), rfl⟩ | exact ⟨_, rfl, iB_f (by omega), rfl⟩)
theorem con_X5_bears (l : Launch) {h : zH} (hTw : TwT h) (c : Int) (hc : 0 ≤ c ∧ c < 256) : Con l mX5_bears 2 0 0 [zR (some (1, 0)), zI c] h (rI fun x h' => x = iB (sBears (gI h (1, 5)) c) ∧ h' = h) zNo := by
  refine Con.ofS (by decide +kernel) (Nat.le_of_ble_eq_true rfl) fun Γ hΓ hno hwf hav => ?_
  have hΓ : Ctx Γ l cX5_bears RX5 "bears" 2 (Option.some Jvm.ClassFile.FieldType.boolean) _ _ 2 _ _ := hΓ
  show SS Γ 0 [some (zR _), some (zI _)] [] _ 0 0
  refine zs_aload_n hΓ dX5_bears_0 (pc' := 1) rfl rfl rfl ?_
  refine zs_iload_n hΓ dX5_bears_1 (pc' := 2) rfl rfl rfl ?_
  refine zs_iconst hΓ dX5_bears_2 (pc' := 3) rfl ⟨by decide, by decide⟩ ?_
  refine zs_callVIP hΓ dX5_bears_3 (pc' := 6) rfl kX5_136 (con_X5_of l hTw c 0 hc (by decide)) (tw_t hTw) rfl rfl rfl (Nat.le_of_ble_eq_true rfl) (by omega) (by decide) (by omega) (by omega) ?_ (fun _ _ q _ => False.elim q)
  refine zs_iconst hΓ dX5_bears_6 (pc' := 7) rfl ⟨by decide, by decide⟩ ?_
  refine zs_icmpeq hΓ dX5_bears_7 (tgt := 25) (by decide) (pc' := 10) rfl (fun c_7 => ?_) (fun c_7 => ?_)
  · refine zs_iconst hΓ dX5_bears_25 (pc' := 26) rfl ⟨by decide, by decide⟩ ?_
    exact zs_zret hΓ dX5_bears_26 rfl (by first | omega | exact iB_01 _) (by omega) (by omega) (by first | exact ⟨_, rfl, rfl, rfl⟩ | exact ⟨_, rfl, iB_t (by omega), rfl⟩ | exact ⟨_, rfl, iB_f (by omega), rfl⟩)
  · refine zs_aload_n hΓ dX5_bears_10 (pc' := 11) rfl rfl rfl ?_
    refine zs_iload_n hΓ dX5_bears_11 (pc' := 12) rfl rfl rfl ?_
    refine zs_iconst hΓ dX5_bears_12 (pc' := 13) rfl ⟨by decide, by decide⟩ ?_
    refine zs_callVIP hΓ dX5_bears_13 (pc' := 16) rfl kX5_136 (con_X5_of l hTw c 0 hc (by decide)) (tw_t hTw) rfl rfl rfl (Nat.le_of_ble_eq_true rfl) (by omega) (by decide) (by omega) (by omega) ?_ (fun _ _ q _ => False.elim q)
    refine zs_bipush hΓ dX5_bears_16 (pc' := 18) rfl ⟨by decide, by decide⟩ ?_
    refine zs_icmpeq hΓ dX5_bears_18 (tgt := 25) (by decide) (pc' := 21) rfl (fun c_18 => ?_) (fun c_18 => ?_)
    · refine zs_iconst hΓ dX5_bears_25 (pc' := 26) rfl ⟨by decide, by decide⟩ ?_
      exact zs_zret hΓ dX5_bears_26 rfl (by first | omega | exact iB_01 _) (by omega) (by omega) (by first | exact ⟨_, rfl, rfl, rfl⟩ | exact ⟨_, rfl, iB_t (by omega), rfl⟩ | exact ⟨_, rfl, iB_f (by omega), rfl⟩)
    · refine zs_iconst hΓ dX5_bears_21 (pc' := 22) rfl ⟨by decide, by decide⟩ ?_
      refine zs_goto hΓ dX5_bears_22 (tgt := 26) (by decide) ?_
      exact zs_zret hΓ dX5_bears_26 rfl (by first | omega | exact iB_01 _) (by omega) (by omega) (by first | exact ⟨_, rfl, rfl, rfl⟩ | exact ⟨_, rfl, iB_t (by omega), rfl⟩ | exact ⟨_, rfl, iB_f (by omega), rfl⟩)
theorem con_X5_isGreen (l : Launch) {h : zH} (hTw : TwT h) (c : Int) (hc : 0 ≤ c ∧ c < 256) : Con l mX5_isGreen 2 0 0 [zR (some (1, 0)), zI c] h (rI fun x h' => x = iB (sGreen (gI h (1, 5)) c) ∧ h' = h) zNo := by
  refine Con.ofS (by decide +kernel) (Nat.le_of_ble_eq_true rfl) fun Γ hΓ hno hwf hav => ?_
  have hΓ : Ctx Γ l cX5_isGreen RX5 "isGreen" 2 (Option.some Jvm.ClassFile.FieldType.boolean) _ _ 2 _ _ := hΓ
  show SS Γ 0 [some (zR _), some (zI _)] [] _ 0 0
  refine zs_aload_n hΓ dX5_isGreen_0 (pc' := 1) rfl rfl rfl ?_
  refine zs_iload_n hΓ dX5_isGreen_1 (pc' := 2) rfl rfl rfl ?_
  refine zs_iconst hΓ dX5_isGreen_2 (pc' := 3) rfl ⟨by decide, by decide⟩ ?_
  refine zs_callVIP hΓ dX5_isGreen_3 (pc' := 6) rfl kX5_136 (con_X5_of l hTw c 0 hc (by decide)) (tw_t hTw) rfl rfl rfl (Nat.le_of_ble_eq_true rfl) (by omega) (by decide) (by omega) (by omega) ?_ (fun _ _ q _ => False.elim q)
  refine zs_ifeq hΓ dX5_isGreen_6 (tgt := 19) (by decide) (pc' := 9) rfl (fun c_6 => ?_) (fun c_6 => ?_)
  · refine zs_iconst hΓ dX5_isGreen_19 (pc' := 20) rfl ⟨by decide, by decide⟩ ?_
    refine zs_goto hΓ dX5_isGreen_20 (tgt := 24) (by decide) ?_
    exact zs_zret hΓ dX5_isGreen_24 rfl (by first | omega | exact iB_01 _) (by omega) (by omega) (by first | exact ⟨_, rfl, rfl, rfl⟩ | exact ⟨_, rfl, iB_t (by omega), rfl⟩ | exact ⟨_, rfl, iB_f (by omega), rfl⟩)
  · refine zs_aload_n hΓ dX5_isGreen_9 (pc' := 10) rfl rfl rfl ?_
    refine zs_iload_n hΓ dX5_isGreen_10 (pc' := 11) rfl rfl rfl ?_
    refine zs_iconst hΓ dX5_isGreen_11 (pc' := 12) rfl ⟨by decide, by decide⟩ ?_
    refine zs_callVIP hΓ dX5_isGreen_12 (pc' := 15) rfl kX5_136 (con_X5_of l hTw c 0 hc (by decide)) (tw_t hTw) rfl rfl rfl (Nat.le_of_ble_eq_true rfl) (by omega) (by decide) (by omega) (by omega) ?_ (fun _ _ q _ => False.elim q)
    refine zs_iconst hΓ dX5_isGreen_15 (pc' := 16) rfl ⟨by decide, by decide⟩ ?_
    refine zs_icmpne hΓ dX5_isGreen_16 (tgt := 23) (by decide) (pc' := 19) rfl (fun c_16 => ?_) (fun c_16 => ?_)
    · refine zs_iconst hΓ dX5_isGreen_23 (pc' := 24) rfl ⟨by decide, by decide⟩ ?_
      exact zs_zret hΓ dX5_isGreen_24 rfl (by first | omega | exact iB_01 _) (by omega) (by omega) (by first | exact ⟨_, rfl, rfl, rfl⟩ | exact ⟨_, rfl, iB_t (by omega), rfl⟩ | exact ⟨_, rfl, iB_f (by omega), rfl⟩)
    · refine zs_iconst hΓ dX5_isGreen_19 (pc' := 20) rfl ⟨by decide, by decide⟩ ?_
      refine zs_goto hΓ dX5_isGreen_20 (tgt := 24) (by decide) ?_
      exact zs_zret hΓ dX5_isGreen_24 rfl (by first | omega | exact iB_01 _) (by omega) (by omega) (by first | exact ⟨_, rfl, rfl, rfl⟩ | exact ⟨_, rfl, iB_t (by omega), rfl⟩ | exact ⟨_, rfl, iB_f (by omega), rfl⟩)
theorem con_X5_isWorn (l : Launch) {h : zH} (hTw : TwT h) (c : Int) (hc : 0 ≤ c ∧ c < 256) : Con l mX5_isWorn 2 0 0 [zR (some (1, 0)), zI c] h (rI fun x h' => x = iB (sWorn (gI h (1, 5)) (gI h (1, 0) 28) c) ∧ h' = h) zNo := by
  refine Con.ofS (by decide +kernel) (Nat.le_of_ble_eq_true rfl) fun Γ hΓ hno hwf hav => ?_
  have hΓ : Ctx Γ l cX5_isWorn RX5 "isWorn" 2 (Option.some Jvm.ClassFile.FieldType.boolean) _ _ 2 _ _ := hΓ
  show SS Γ 0 [some (zR _), some (zI _)] [] _ 0 0
  refine zs_aload_n hΓ dX5_isWorn_0 (pc' := 1) rfl rfl rfl ?_
  refine zs_iload_n hΓ dX5_isWorn_1 (pc' := 2) rfl rfl rfl ?_
  refine zs_iconst hΓ dX5_isWorn_2 (pc' := 3) rfl ⟨by decide, by decide⟩ ?_
  refine zs_callVIP hΓ dX5_isWorn_3 (pc' := 6) rfl kX5_136 (con_X5_of l hTw c 3 hc (by decide)) (tw_t hTw) rfl rfl rfl (Nat.le_of_ble_eq_true rfl) (by omega) (by decide) (by omega) (by omega) ?_ (fun _ _ q _ => False.elim q)
  refine zs_aload_n hΓ dX5_isWorn_6 (pc' := 7) rfl rfl rfl ?_
  refine zs_geti hΓ dX5_isWorn_7 (pc' := 10) rfl fX5_74 (i9 := 28) rfl rfl (tw_t hTw) ?_
  refine zs_icmplt hΓ dX5_isWorn_10 (tgt := 17) (by decide) (pc' := 13) rfl (fun c_10 => ?_) (fun c_10 => ?_)
  · refine zs_iconst hΓ dX5_isWorn_17 (pc' := 18) rfl ⟨by decide, by decide⟩ ?_
    exact zs_zret hΓ dX5_isWorn_18 rfl (by first | omega | exact iB_01 _) (by omega) (by omega) (by first | exact ⟨_, rfl, rfl, rfl⟩ | exact ⟨_, rfl, iB_t (by omega), rfl⟩ | exact ⟨_, rfl, iB_f (by omega), rfl⟩)
  · refine zs_iconst hΓ dX5_isWorn_13 (pc' := 14) rfl ⟨by decide, by decide⟩ ?_
    refine zs_goto hΓ dX5_isWorn_14 (tgt := 18) (by decide) ?_
    exact zs_zret hΓ dX5_isWorn_18 rfl (by first | omega | exact iB_01 _) (by omega) (by omega) (by first | exact ⟨_, rfl, rfl, rfl⟩ | exact ⟨_, rfl, iB_t (by omega), rfl⟩ | exact ⟨_, rfl, iB_f (by omega), rfl⟩)
theorem con_X5_isMuddy (l : Launch) {h : zH} (hTw : TwT h) (c : Int) (hc : 0 ≤ c ∧ c < 256) : Con l mX5_isMuddy 3 0 0 [zR (some (1, 0)), zI c] h (rI fun x h' => x = iB (sMuddy (gI h (1, 5)) (gI h (1, 0) 28) (gI h (1, 0) 29) c) ∧ h' = h) zNo := by
  refine Con.ofS (by decide +kernel) (Nat.le_of_ble_eq_true rfl) fun Γ hΓ hno hwf hav => ?_
  have hΓ : Ctx Γ l cX5_isMuddy RX5 "isMuddy" 2 (Option.some Jvm.ClassFile.FieldType.boolean) _ _ 3 _ _ := hΓ
  show SS Γ 0 [some (zR _), some (zI _)] [] _ 0 0
  refine zs_aload_n hΓ dX5_isMuddy_0 (pc' := 1) rfl rfl rfl ?_
  refine zs_iload_n hΓ dX5_isMuddy_1 (pc' := 2) rfl rfl rfl ?_
  refine zs_callVIP hΓ dX5_isMuddy_2 (pc' := 5) rfl kX5_140 (con_X5_isWorn l hTw c hc) (tw_t hTw) rfl rfl rfl (Nat.le_of_ble_eq_true rfl) (by omega) (by decide) (by omega) (by omega) ?_ (fun _ _ q _ => False.elim q)
  refine zs_ifeq hΓ dX5_isMuddy_5 (tgt := 25) (by decide) (pc' := 8) rfl (fun c_5 => ?_) (fun c_5 => ?_)
  · try have c_5 := iB_eq c_5
    refine zs_iconst hΓ dX5_isMuddy_25 (pc' := 26) rfl ⟨by decide, by decide⟩ ?_
    exact zs_zret hΓ dX5_isMuddy_26 rfl (by first | omega | exact iB_01 _) (by omega) (by omega) (by first | exact ⟨_, rfl, rfl, rfl⟩ | exact ⟨_, rfl, iB_t (by omega), rfl⟩ | exact ⟨_, rfl, iB_f (by omega), rfl⟩)
  · try have c_5 := iB_ne c_5
    refine zs_aload_n hΓ dX5_isMuddy_8 (pc' := 9) rfl rfl rfl ?_
    refine zs_iload_n hΓ dX5_isMuddy_9 (pc' := 10) rfl rfl rfl ?_
    refine zs_iconst hΓ dX5_isMuddy_10 (pc' := 11) rfl ⟨by decide, by decide⟩ ?_
    refine zs_callVIP hΓ dX5_isMuddy_11 (pc' := 14) rfl kX5_136 (con_X5_of l hTw c 4 hc (by decide)) (tw_t hTw) rfl rfl rfl (Nat.le_of_ble_eq_true rfl) (by omega) (by decide) (by omega) (by omega) ?_ (fun _ _ q _ => False.elim q)
    refine zs_aload_n hΓ dX5_isMuddy_14 (pc' := 15) rfl rfl rfl ?_
    refine zs_geti hΓ dX5_isMuddy_15 (pc' := 18) rfl fX5_77 (i9 := 29) rfl rfl (tw_t hTw) ?_
    refine zs_icmplt hΓ dX5_isMuddy_18 (tgt := 25) (by decide) (pc' := 21) rfl (fun c_18 => ?_) (fun c_18 => ?_)
    · refine zs_iconst hΓ dX5_isMuddy_25 (pc' := 26) rfl ⟨by decide, by decide⟩ ?_
      exact zs_zret hΓ dX5_isMuddy_26 rfl (by first | omega | exact iB_01 _) (by omega) (by omega) (by first | exact ⟨_, rfl, rfl, rfl⟩ | exact ⟨_, rfl, iB_t (by omega), rfl⟩ | exact ⟨_, rfl, iB_f (by omega), rfl⟩)
    · refine zs_iconst hΓ dX5_isMuddy_21 (pc' := 22) rfl ⟨by decide, by decide⟩ ?_
      refine zs_goto hΓ dX5_isMuddy_22 (tgt := 26) (by decide) ?_
      exact zs_zret hΓ dX5_isMuddy_26 rfl (by first | omega | exact iB_01 _) (by omega) (by omega) (by first | exact ⟨_, rfl, rfl, rfl⟩ | exact ⟨_, rfl, iB_t (by omega), rfl⟩ | exact ⟨_, rfl, iB_f (by omega), rfl⟩)
theorem con_X5_isDoor (l : Launch) {h : zH} (hTw : TwT h) (d : Int) (hd : 0 ≤ gI h (1, 5) 2 ∧ gI h (1, 5) 2 ≤ 9) : Con l mX5_isDoor 2 0 0 [zR (some (1, 0)), zI d] h (rI fun x h' => x = iB (sIsDoor (gI h (1, 5)) d) ∧ h' = h) zNo := by
  refine Con.ofS (by decide +kernel) (Nat.le_of_ble_eq_true rfl) fun Γ hΓ hno hwf hav => ?_
  have hΓ : Ctx Γ l cX5_isDoor RX5 "isDoor" 2 (Option.some Jvm.ClassFile.FieldType.boolean) _ _ 2 _ _ := hΓ
  show SS Γ 0 [some (zR _), some (zI _)] [] _ 0 0
  refine zs_iload_n hΓ dX5_isDoor_0 (pc' := 1) rfl rfl rfl ?_
  refine zs_iconst hΓ dX5_isDoor_1 (pc' := 2) rfl ⟨by decide, by decide⟩ ?_
  refine zs_aload_n hΓ dX5_isDoor_2 (pc' := 3) rfl rfl rfl ?_
  refine zs_getrE hΓ dX5_isDoor_3 (pc' := 6) rfl fX5_30 (i9 := 5) rfl rfl (tw_t hTw) (tw_p5 hTw) ?_
  refine zs_iconst hΓ dX5_isDoor_6 (pc' := 7) rfl ⟨by decide, by decide⟩ ?_
  refine zs_iald hΓ dX5_isDoor_7 (pc' := 8) rfl (tw_a5 hTw) (by omega) (by omega) ?_
  refine zs_iconst hΓ dX5_isDoor_8 (pc' := 9) rfl ⟨by decide, by decide⟩ ?_
  refine zs_isub hΓ dX5_isDoor_9 (pc' := 10) rfl (by unfold inI; omega) ?_
  refine zs_callSIP hΓ dX5_isDoor_10 (pc' := 13) rfl kX5_132 (con_X5_isIn l _ _ _) rfl rfl (Nat.le_of_ble_eq_true rfl) (by omega) (by decide) (by omega) (by omega) ?_ (fun _ _ q _ => False.elim q)
  exact zs_zret hΓ dX5_isDoor_13 rfl (by first | omega | exact iB_01 _) (by omega) (by omega) (by first | exact ⟨_, rfl, rfl, rfl⟩ | exact ⟨_, rfl, iB_t (by omega), rfl⟩ | exact ⟨_, rfl, iB_f (by omega), rfl⟩)
theorem con_X5_beside (l : Launch) {h : zH} (hTw : TwT h) (hw : RW (gI h (1, 5))) (c d : Int) (hc : 0 ≤ c ∧ c < gI h (1, 5) 0 * gI h (1, 5) 1) (hd : 0 ≤ d ∧ d < 8) : Con l mX5_beside 3 0 0 [zR (some (1, 0)), zI c, zI d] h (rI fun x h' => x = sBeside (gI h (1, 5)) c d ∧ h' = h) zNo := by
  refine Con.ofS (by decide +kernel) (Nat.le_of_ble_eq_true rfl) fun Γ hΓ hno hwf hav => ?_
  have hΓ : Ctx Γ l cX5_beside RX5 "beside" 5 (Option.some Jvm.ClassFile.FieldType.int) _ _ 3 _ _ := hΓ
  show SS Γ 0 [some (zR _), some (zI _), some (zI _), none, none] [] _ 0 0
  have h8 := hw.1
  have h9 := hw.2
  have h7 := hw.xy hc
  have he : -1 ≤ sEast d ∧ sEast d ≤ 1 := by unfold sEast; omega
  have hs : -1 ≤ sSouth d ∧ sSouth d ≤ 1 := by unfold sSouth; omega
  refine zs_iload_n hΓ dX5_beside_0 (pc' := 1) rfl rfl rfl ?_
  refine zs_aload_n hΓ dX5_beside_1 (pc' := 2) rfl rfl rfl ?_
  refine zs_getrE hΓ dX5_beside_2 (pc' := 5) rfl fX5_30 (i9 := 5) rfl rfl (tw_t hTw) (tw_p5 hTw) ?_
  refine zs_iconst hΓ dX5_beside_5 (pc' := 6) rfl ⟨by decide, by decide⟩ ?_
  refine zs_iald hΓ dX5_beside_6 (pc' := 7) rfl (tw_a5 hTw) (by omega) (by omega) ?_
  refine zs_irem hΓ dX5_beside_7 (pc' := 8) rfl (by omega) (by omega) ?_
  refine zs_iload_n hΓ dX5_beside_8 (pc' := 9) rfl rfl rfl ?_
  refine zs_callSIP hΓ dX5_beside_9 (pc' := 12) rfl kX5_347 (con_X5_east l d hd) rfl rfl (Nat.le_of_ble_eq_true rfl) (by omega) (by decide) (by omega) (by omega) ?_ (fun _ _ q _ => False.elim q)
  refine zs_iadd hΓ dX5_beside_12 (pc' := 13) rfl (by unfold inI; omega) ?_
  refine zs_istore_n hΓ dX5_beside_13 (pc' := 14) rfl (L' := [some (zR _), some (zI _), some (zI _), some (zI _), none]) rfl (by decide) rfl rfl ?_
  refine zs_iload_n hΓ dX5_beside_14 (pc' := 15) rfl rfl rfl ?_
  refine zs_aload_n hΓ dX5_beside_15 (pc' := 16) rfl rfl rfl ?_
  refine zs_getrE hΓ dX5_beside_16 (pc' := 19) rfl fX5_30 (i9 := 5) rfl rfl (tw_t hTw) (tw_p5 hTw) ?_
  refine zs_iconst hΓ dX5_beside_19 (pc' := 20) rfl ⟨by decide, by decide⟩ ?_
  refine zs_iald hΓ dX5_beside_20 (pc' := 21) rfl (tw_a5 hTw) (by omega) (by omega) ?_
  refine zs_idiv hΓ dX5_beside_21 (pc' := 22) rfl (by omega) (by omega) ?_
  refine zs_iload_n hΓ dX5_beside_22 (pc' := 23) rfl rfl rfl ?_
  refine zs_callSIP hΓ dX5_beside_23 (pc' := 26) rfl kX5_350 (con_X5_south l d hd) rfl rfl (Nat.le_of_ble_eq_true rfl) (by omega) (by decide) (by omega) (by omega) ?_ (fun _ _ q _ => False.elim q)
  refine zs_iadd hΓ dX5_beside_26 (pc' := 27) rfl (by unfold inI; omega) ?_
  refine zs_istore hΓ dX5_beside_27 (pc' := 29) rfl (L' := [some (zR _), some (zI _), some (zI _), some (zI _), some (zI _)]) (by decide) rfl rfl ?_
  refine zs_iload_n hΓ dX5_beside_29 (pc' := 30) rfl rfl rfl ?_
  refine zs_iconst hΓ dX5_beside_30 (pc' := 31) rfl ⟨by decide, by decide⟩ ?_
  refine zs_aload_n hΓ dX5_beside_31 (pc' := 32) rfl rfl rfl ?_
  refine zs_getrE hΓ dX5_beside_32 (pc' := 35) rfl fX5_30 (i9 := 5) rfl rfl (tw_t hTw) (tw_p5 hTw) ?_
  refine zs_iconst hΓ dX5_beside_35 (pc' := 36) rfl ⟨by decide, by decide⟩ ?_
  refine zs_iald hΓ dX5_beside_36 (pc' := 37) rfl (tw_a5 hTw) (by omega) (by omega) ?_
  refine zs_iconst hΓ dX5_beside_37 (pc' := 38) rfl ⟨by decide, by decide⟩ ?_
  refine zs_isub hΓ dX5_beside_38 (pc' := 39) rfl (by unfold inI; omega) ?_
  refine zs_callSIP hΓ dX5_beside_39 (pc' := 42) rfl kX5_132 (con_X5_isIn l _ _ _) rfl rfl (Nat.le_of_ble_eq_true rfl) (by omega) (by decide) (by omega) (by omega) ?_ (fun _ _ q _ => False.elim q)
  refine zs_ifeq hΓ dX5_beside_42 (tgt := 76) (by decide) (pc' := 45) rfl (fun c_42 => ?_) (fun c_42 => ?_)
  · try have c_42 := iB_eq c_42
    refine zs_iconst hΓ dX5_beside_76 (pc' := 77) rfl ⟨by decide, by decide⟩ ?_
    exact zs_iret hΓ dX5_beside_77 rfl (by omega) (by omega) (⟨_, rfl, (by unfold sBeside; rw [if_neg (by omega)]), rfl⟩)
  · try have c_42 := iB_ne c_42
    refine zs_iload hΓ dX5_beside_45 (pc' := 47) rfl rfl ?_
    refine zs_iconst hΓ dX5_beside_47 (pc' := 48) rfl ⟨by decide, by decide⟩ ?_
    refine zs_aload_n hΓ dX5_beside_48 (pc' := 49) rfl rfl rfl ?_
    refine zs_getrE hΓ dX5_beside_49 (pc' := 52) rfl fX5_30 (i9 := 5) rfl rfl (tw_t hTw) (tw_p5 hTw) ?_
    refine zs_iconst hΓ dX5_beside_52 (pc' := 53) rfl ⟨by decide, by decide⟩ ?_
    refine zs_iald hΓ dX5_beside_53 (pc' := 54) rfl (tw_a5 hTw) (by omega) (by omega) ?_
    refine zs_iconst hΓ dX5_beside_54 (pc' := 55) rfl ⟨by decide, by decide⟩ ?_
    refine zs_isub hΓ dX5_beside_55 (pc' := 56) rfl (by unfold inI; omega) ?_
    refine zs_callSIP hΓ dX5_beside_56 (pc' := 59) rfl kX5_132 (con_X5_isIn l _ _ _) rfl rfl (Nat.le_of_ble_eq_true rfl) (by omega) (by decide) (by omega) (by omega) ?_ (fun _ _ q _ => False.elim q)
    refine zs_ifeq hΓ dX5_beside_59 (tgt := 76) (by decide) (pc' := 62) rfl (fun c_59 => ?_) (fun c_59 => ?_)
    · try have c_59 := iB_eq c_59
      refine zs_iconst hΓ dX5_beside_76 (pc' := 77) rfl ⟨by decide, by decide⟩ ?_
      exact zs_iret hΓ dX5_beside_77 rfl (by omega) (by omega) (⟨_, rfl, (by unfold sBeside; rw [if_neg (by omega)]), rfl⟩)
    · try have c_59 := iB_ne c_59
      have h6 := cell_lt (w := gI h (1, 5) 0) (g := gI h (1, 5) 1) (x := c % gI h (1, 5) 0 + sEast d) (y := c / gI h (1, 5) 0 + sSouth d) (by omega) (by omega)
      have h5 := hw.c
      have h4 : 0 ≤ gI h (1, 5) 0 * (c / gI h (1, 5) 0 + sSouth d) := Int.mul_nonneg (by omega) (by omega)
      refine zs_aload_n hΓ dX5_beside_62 (pc' := 63) rfl rfl rfl ?_
      refine zs_getrE hΓ dX5_beside_63 (pc' := 66) rfl fX5_30 (i9 := 5) rfl rfl (tw_t hTw) (tw_p5 hTw) ?_
      refine zs_iconst hΓ dX5_beside_66 (pc' := 67) rfl ⟨by decide, by decide⟩ ?_
      refine zs_iald hΓ dX5_beside_67 (pc' := 68) rfl (tw_a5 hTw) (by omega) (by omega) ?_
      refine zs_iload hΓ dX5_beside_68 (pc' := 70) rfl rfl ?_
      refine zs_imul hΓ dX5_beside_70 (pc' := 71) rfl (by unfold inI; omega) ?_
      refine zs_iload_n hΓ dX5_beside_71 (pc' := 72) rfl rfl rfl ?_
      refine zs_iadd hΓ dX5_beside_72 (pc' := 73) rfl (by unfold inI; omega) ?_
      refine zs_goto hΓ dX5_beside_73 (tgt := 77) (by decide) ?_
      exact zs_iret hΓ dX5_beside_77 rfl (by omega) (by omega) (⟨_, rfl, (by unfold sBeside; rw [if_pos (by omega)]), rfl⟩)
theorem con_X5_across (l : Launch) {h : zH} (hTw : TwT h) (hw : RW (gI h (1, 5))) (a b : Int) (ha : 0 ≤ a ∧ a < gI h (1, 5) 0 * gI h (1, 5) 1) (hb : 0 ≤ b ∧ b < gI h (1, 5) 0 * gI h (1, 5) 1) : Con l mX5_across 2 0 0 [zR (some (1, 0)), zI a, zI b] h (rI fun x h' => x = sAbs (a % gI h (1, 5) 0 - b % gI h (1, 5) 0) ∧ h' = h) zNo := by
  refine Con.ofS (by decide +kernel) (Nat.le_of_ble_eq_true rfl) fun Γ hΓ hno hwf hav => ?_
  have hΓ : Ctx Γ l cX5_across RX5 "across" 3 (Option.some Jvm.ClassFile.FieldType.int) _ _ 2 _ _ := hΓ
  show SS Γ 0 [some (zR _), some (zI _), some (zI _)] [] _ 0 0
  have h8 := hw.1
  have h6 := hw.xy ha
  have h7 := hw.xy hb
  refine zs_iload_n hΓ dX5_across_0 (pc' := 1) rfl rfl rfl ?_
  refine zs_aload_n hΓ dX5_across_1 (pc' := 2) rfl rfl rfl ?_
  refine zs_getrE hΓ dX5_across_2 (pc' := 5) rfl fX5_30 (i9 := 5) rfl rfl (tw_t hTw) (tw_p5 hTw) ?_
  refine zs_iconst hΓ dX5_across_5 (pc' := 6) rfl ⟨by decide, by decide⟩ ?_
  refine zs_iald hΓ dX5_across_6 (pc' := 7) rfl (tw_a5 hTw) (by omega) (by omega) ?_
  refine zs_irem hΓ dX5_across_7 (pc' := 8) rfl (by omega) (by omega) ?_
  refine zs_iload_n hΓ dX5_across_8 (pc' := 9) rfl rfl rfl ?_
  refine zs_aload_n hΓ dX5_across_9 (pc' := 10) rfl rfl rfl ?_
  refine zs_getrE hΓ dX5_across_10 (pc' := 13) rfl fX5_30 (i9 := 5) rfl rfl (tw_t hTw) (tw_p5 hTw) ?_
  refine zs_iconst hΓ dX5_across_13 (pc' := 14) rfl ⟨by decide, by decide⟩ ?_
  refine zs_iald hΓ dX5_across_14 (pc' := 15) rfl (tw_a5 hTw) (by omega) (by omega) ?_
  refine zs_irem hΓ dX5_across_15 (pc' := 16) rfl (by omega) (by omega) ?_
  refine zs_isub hΓ dX5_across_16 (pc' := 17) rfl (by unfold inI; omega) ?_
  refine zs_callSIP hΓ dX5_across_17 (pc' := 20) rfl kX5_353 (con_X5_plain l _ (by omega)) rfl rfl (Nat.le_of_ble_eq_true rfl) (by omega) (by decide) (by omega) (by omega) ?_ (fun _ _ q _ => False.elim q)
  exact zs_iret hΓ dX5_across_20 rfl (by omega) (by omega) (⟨_, rfl, rfl, rfl⟩)
theorem con_X5_along (l : Launch) {h : zH} (hTw : TwT h) (hw : RW (gI h (1, 5))) (a b : Int) (ha : 0 ≤ a ∧ a < gI h (1, 5) 0 * gI h (1, 5) 1) (hb : 0 ≤ b ∧ b < gI h (1, 5) 0 * gI h (1, 5) 1) : Con l mX5_along 2 0 0 [zR (some (1, 0)), zI a, zI b] h (rI fun x h' => x = sAbs (a / gI h (1, 5) 0 - b / gI h (1, 5) 0) ∧ h' = h) zNo := by
  refine Con.ofS (by decide +kernel) (Nat.le_of_ble_eq_true rfl) fun Γ hΓ hno hwf hav => ?_
  have hΓ : Ctx Γ l cX5_along RX5 "along" 3 (Option.some Jvm.ClassFile.FieldType.int) _ _ 2 _ _ := hΓ
  show SS Γ 0 [some (zR _), some (zI _), some (zI _)] [] _ 0 0
  have h8 := hw.1
  have h6 := hw.xy ha
  have h7 := hw.xy hb
  have h9 := hw.2
  refine zs_iload_n hΓ dX5_along_0 (pc' := 1) rfl rfl rfl ?_
  refine zs_aload_n hΓ dX5_along_1 (pc' := 2) rfl rfl rfl ?_
  refine zs_getrE hΓ dX5_along_2 (pc' := 5) rfl fX5_30 (i9 := 5) rfl rfl (tw_t hTw) (tw_p5 hTw) ?_
  refine zs_iconst hΓ dX5_along_5 (pc' := 6) rfl ⟨by decide, by decide⟩ ?_
  refine zs_iald hΓ dX5_along_6 (pc' := 7) rfl (tw_a5 hTw) (by omega) (by omega) ?_
  refine zs_idiv hΓ dX5_along_7 (pc' := 8) rfl (by omega) (by omega) ?_
  refine zs_iload_n hΓ dX5_along_8 (pc' := 9) rfl rfl rfl ?_
  refine zs_aload_n hΓ dX5_along_9 (pc' := 10) rfl rfl rfl ?_
  refine zs_getrE hΓ dX5_along_10 (pc' := 13) rfl fX5_30 (i9 := 5) rfl rfl (tw_t hTw) (tw_p5 hTw) ?_
  refine zs_iconst hΓ dX5_along_13 (pc' := 14) rfl ⟨by decide, by decide⟩ ?_
  refine zs_iald hΓ dX5_along_14 (pc' := 15) rfl (tw_a5 hTw) (by omega) (by omega) ?_
  refine zs_idiv hΓ dX5_along_15 (pc' := 16) rfl (by omega) (by omega) ?_
  refine zs_isub hΓ dX5_along_16 (pc' := 17) rfl (by unfold inI; omega) ?_
  refine zs_callSIP hΓ dX5_along_17 (pc' := 20) rfl kX5_353 (con_X5_plain l _ (by omega)) rfl rfl (Nat.le_of_ble_eq_true rfl) (by omega) (by decide) (by omega) (by omega) ?_ (fun _ _ q _ => False.elim q)
  exact zs_iret hΓ dX5_along_20 rfl (by omega) (by omega) (⟨_, rfl, rfl, rfl⟩)
