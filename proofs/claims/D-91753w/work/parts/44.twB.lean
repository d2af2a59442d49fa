/-! THE TWIN, B: the row's small changes -/
set_option maxRecDepth 100000
theorem con_X5_isDoorAt (l : Launch) {h : zH} (hTw : TwT h) (c : Int) (hn : 0 ≤ gI h (1, 5) 2 ∧ gI h (1, 5) 2 ≤ 9) : Con l mX5_isDoorAt 1 0 0 [zR (some (1, 0)), zI c] h (rI fun x h' => x = iB (sDoorAt (gI h (1, 5)) c) ∧ h' = h) zNo := by
  refine Con.ofS (by decide +kernel) (Nat.le_of_ble_eq_true rfl) fun Γ hΓ hno hwf hav => ?_
  have hΓ : Ctx Γ l cX5_isDoorAt RX5 "isDoorAt" 3 (Option.some Jvm.ClassFile.FieldType.boolean) _ _ 1 _ _ := hΓ
  show SS Γ 0 [some (zR _), some (zI _), none] [] _ 0 0
  have lp : ∀ (n9 : Nat) (i : Int), (0 ≤ i ∧ i ≤ gI h (1, 5) 2) → (∀ j, 0 ≤ j → j < i → gI h (1, 5) (3 + j) ≠ c) → (gI h (1, 5) 2 - i < n9) → SS Γ 2 [some (zR (some (1, 0))), some (zI c), some (zI i)] [] h 0 0 := by
    intro n9
    induction n9 with
    | zero => intro i h1 h2 hm9; exact absurd hm9 (by omega)
    | succ n9 ih =>
      intro i h1 h2 hm9
      refine zs_iload_n hΓ dX5_isDoorAt_2 (pc' := 3) rfl rfl rfl ?_
      refine zs_aload_n hΓ dX5_isDoorAt_3 (pc' := 4) rfl rfl rfl ?_
      refine zs_getrE hΓ dX5_isDoorAt_4 (pc' := 7) rfl fX5_30 (i9 := 5) rfl rfl (tw_t hTw) (tw_p5 hTw) ?_
      refine zs_iconst hΓ dX5_isDoorAt_7 (pc' := 8) rfl ⟨by decide, by decide⟩ ?_
      refine zs_iald hΓ dX5_isDoorAt_8 (pc' := 9) rfl (tw_a5 hTw) (by omega) (by omega) ?_
      refine zs_icmpge hΓ dX5_isDoorAt_9 (tgt := 32) (by decide) (pc' := 12) rfl (fun c_9 => ?_) (fun c_9 => ?_)
      · refine zs_iconst hΓ dX5_isDoorAt_32 (pc' := 33) rfl ⟨by decide, by decide⟩ ?_
        exact zs_zret hΓ dX5_isDoorAt_33 rfl (by first | omega | exact iB_01 _) (by omega) (by omega) (⟨_, rfl, iB_f (fun ⟨j, j1, j2, j3⟩ => h2 j j1 (by omega) j3), rfl⟩)
      · refine zs_aload_n hΓ dX5_isDoorAt_12 (pc' := 13) rfl rfl rfl ?_
        refine zs_getrE hΓ dX5_isDoorAt_13 (pc' := 16) rfl fX5_30 (i9 := 5) rfl rfl (tw_t hTw) (tw_p5 hTw) ?_
        refine zs_iconst hΓ dX5_isDoorAt_16 (pc' := 17) rfl ⟨by decide, by decide⟩ ?_
        refine zs_iload_n hΓ dX5_isDoorAt_17 (pc' := 18) rfl rfl rfl ?_
        refine zs_iadd hΓ dX5_isDoorAt_18 (pc' := 19) rfl (by unfold inI; omega) ?_
        refine zs_iald hΓ dX5_isDoorAt_19 (pc' := 20) rfl (tw_a5 hTw) (by omega) (by omega) ?_
        refine zs_iload_n hΓ dX5_isDoorAt_20 (pc' := 21) rfl rfl rfl ?_
        refine zs_icmpne hΓ dX5_isDoorAt_21 (tgt := 26) (by decide) (pc' := 24) rfl (fun c_21 => ?_) (fun c_21 => ?_)
        · refine zs_iinc hΓ dX5_isDoorAt_26 (pc' := 29) rfl (L' := [some (zR _), some (zI _), some (zI _)]) rfl (by unfold inI; omega) (by decide) rfl rfl ?_
          refine zs_goto hΓ dX5_isDoorAt_29 (tgt := 2) (by decide) ?_
          exact ih (i + 1) (by omega) (fun j j1 j2 => by rcases (show j < i ∨ j = i by omega) with q | q; exact h2 j j1 q; rw [q]; exact c_21) (by omega)
        · refine zs_iconst hΓ dX5_isDoorAt_24 (pc' := 25) rfl ⟨by decide, by decide⟩ ?_
          exact zs_zret hΓ dX5_isDoorAt_25 rfl (by first | omega | exact iB_01 _) (by omega) (by omega) (⟨_, rfl, iB_t ⟨i, h1.1, c_9, c_21⟩, rfl⟩)
  refine zs_iconst hΓ dX5_isDoorAt_0 (pc' := 1) rfl ⟨by decide, by decide⟩ ?_
  refine zs_istore_n hΓ dX5_isDoorAt_1 (pc' := 2) rfl (L' := [some (zR _), some (zI _), some (zI _)]) rfl (by decide) rfl rfl ?_
  exact lp 10 0 (by omega) (fun j _ _ => by omega) (by omega)
theorem con_X5_isWalkerAt (l : Launch) {h : zH} (hTw : TwT h) (c : Int) (hn : 0 ≤ gI h (1, 5) 157 ∧ gI h (1, 5) 157 ≤ 60) : Con l mX5_isWalkerAt 1 0 0 [zR (some (1, 0)), zI c] h (rI fun x h' => x = iB (sWalkAt (gI h (1, 5)) c) ∧ h' = h) zNo := by
  refine Con.ofS (by decide +kernel) (Nat.le_of_ble_eq_true rfl) fun Γ hΓ hno hwf hav => ?_
  have hΓ : Ctx Γ l cX5_isWalkerAt RX5 "isWalkerAt" 3 (Option.some Jvm.ClassFile.FieldType.boolean) _ _ 1 _ _ := hΓ
  show SS Γ 0 [some (zR _), some (zI _), none] [] _ 0 0
  have lp : ∀ (n9 : Nat) (i : Int), (0 ≤ i ∧ i ≤ gI h (1, 5) 157) → (∀ j, 0 ≤ j → j < i → gI h (1, 5) (158 + 6 * j) ≠ c) → (gI h (1, 5) 157 - i < n9) → SS Γ 2 [some (zR (some (1, 0))), some (zI c), some (zI i)] [] h 0 0 := by
    intro n9
    induction n9 with
    | zero => intro i h1 h2 hm9; exact absurd hm9 (by omega)
    | succ n9 ih =>
      intro i h1 h2 hm9
      refine zs_iload_n hΓ dX5_isWalkerAt_2 (pc' := 3) rfl rfl rfl ?_
      refine zs_aload_n hΓ dX5_isWalkerAt_3 (pc' := 4) rfl rfl rfl ?_
      refine zs_getrE hΓ dX5_isWalkerAt_4 (pc' := 7) rfl fX5_30 (i9 := 5) rfl rfl (tw_t hTw) (tw_p5 hTw) ?_
      refine zs_sipush hΓ dX5_isWalkerAt_7 (pc' := 10) rfl ⟨by decide, by decide⟩ ?_
      refine zs_iald hΓ dX5_isWalkerAt_10 (pc' := 11) rfl (tw_a5 hTw) (by omega) (by omega) ?_
      refine zs_icmpge hΓ dX5_isWalkerAt_11 (tgt := 39) (by decide) (pc' := 14) rfl (fun c_11 => ?_) (fun c_11 => ?_)
      · refine zs_iconst hΓ dX5_isWalkerAt_39 (pc' := 40) rfl ⟨by decide, by decide⟩ ?_
        exact zs_zret hΓ dX5_isWalkerAt_40 rfl (by first | omega | exact iB_01 _) (by omega) (by omega) (⟨_, rfl, iB_f (fun ⟨j, j1, j2, j3⟩ => h2 j j1 (by omega) j3), rfl⟩)
      · refine zs_aload_n hΓ dX5_isWalkerAt_14 (pc' := 15) rfl rfl rfl ?_
        refine zs_getrE hΓ dX5_isWalkerAt_15 (pc' := 18) rfl fX5_30 (i9 := 5) rfl rfl (tw_t hTw) (tw_p5 hTw) ?_
        refine zs_sipush hΓ dX5_isWalkerAt_18 (pc' := 21) rfl ⟨by decide, by decide⟩ ?_
        refine zs_bipush hΓ dX5_isWalkerAt_21 (pc' := 23) rfl ⟨by decide, by decide⟩ ?_
        refine zs_iload_n hΓ dX5_isWalkerAt_23 (pc' := 24) rfl rfl rfl ?_
        refine zs_imul hΓ dX5_isWalkerAt_24 (pc' := 25) rfl (by unfold inI; omega) ?_
        refine zs_iadd hΓ dX5_isWalkerAt_25 (pc' := 26) rfl (by unfold inI; omega) ?_
        refine zs_iald hΓ dX5_isWalkerAt_26 (pc' := 27) rfl (tw_a5 hTw) (by omega) (by omega) ?_
        refine zs_iload_n hΓ dX5_isWalkerAt_27 (pc' := 28) rfl rfl rfl ?_
        refine zs_icmpne hΓ dX5_isWalkerAt_28 (tgt := 33) (by decide) (pc' := 31) rfl (fun c_28 => ?_) (fun c_28 => ?_)
        · refine zs_iinc hΓ dX5_isWalkerAt_33 (pc' := 36) rfl (L' := [some (zR _), some (zI _), some (zI _)]) rfl (by unfold inI; omega) (by decide) rfl rfl ?_
          refine zs_goto hΓ dX5_isWalkerAt_36 (tgt := 2) (by decide) ?_
          exact ih (i + 1) (by omega) (fun j j1 j2 => by rcases (show j < i ∨ j = i by omega) with q | q; exact h2 j j1 q; rw [q]; exact c_28) (by omega)
        · refine zs_iconst hΓ dX5_isWalkerAt_31 (pc' := 32) rfl ⟨by decide, by decide⟩ ?_
          exact zs_zret hΓ dX5_isWalkerAt_32 rfl (by first | omega | exact iB_01 _) (by omega) (by omega) (⟨_, rfl, iB_t ⟨i, h1.1, c_11, c_28⟩, rfl⟩)
  refine zs_iconst hΓ dX5_isWalkerAt_0 (pc' := 1) rfl ⟨by decide, by decide⟩ ?_
  refine zs_istore_n hΓ dX5_isWalkerAt_1 (pc' := 2) rfl (L' := [some (zR _), some (zI _), some (zI _)]) rfl (by decide) rfl rfl ?_
  exact lp 61 0 (by omega) (fun j _ _ => by omega) (by omega)
theorem con_X5_layAside (l : Launch) {h : zH} (hTw : TwT h) : Con l mX5_layAside 1 0 0 [zR (some (1, 0))] h (rV fun h' => Same (fun a _ => a = (1, 7)) h h' ∧ gI h' (1, 7) = gI h (1, 5)) zNo := by
  refine Con.ofS (by decide +kernel) (Nat.le_of_ble_eq_true rfl) fun Γ hΓ hno hwf hav => ?_
  have hΓ : Ctx Γ l cX5_layAside RX5 "layAside" 2 (Option.none : Option Jvm.ClassFile.FieldType) _ _ 1 _ _ := hΓ
  show SS Γ 0 [some (zR _), none] [] _ 0 0
  have lp : ∀ (n9 : Nat) (i : Int) (h' : zH), (0 ≤ i ∧ i ≤ 2314) → (Same (fun a _ => a = (1, 7)) h h') → (∀ j, 0 ≤ j → j < i → gI h' (1, 7) j = gI h (1, 5) j) → (2314 - i < n9) → SS Γ 2 [some (zR (some (1, 0))), some (zI i)] [] h' 0 0 := by
    intro n9
    induction n9 with
    | zero => intro i h' h1 h2 h3 hm9; exact absurd hm9 (by omega)
    | succ n9 ih =>
      intro i h' h1 h2 h3 hm9
      have hTw := hTw.same h2
      have e5 : gI h' (1, 5) i = gI h (1, 5) i := h2.2.2 (1, 5) i n57
      refine zs_iload_n hΓ dX5_layAside_2 (pc' := 3) rfl rfl rfl ?_
      refine zs_sipush hΓ dX5_layAside_3 (pc' := 6) rfl ⟨by decide, by decide⟩ ?_
      refine zs_icmpge hΓ dX5_layAside_6 (tgt := 27) (by decide) (pc' := 9) rfl (fun c_6 => ?_) (fun c_6 => ?_)
      · refine zs_wf fun hwf' => ?_
        exact zs_vret hΓ dX5_layAside_27 rfl (by omega) (by omega) (⟨rfl, h2, row_ext hwf' hwf (tw_a7 hTw) (tw_a5 (hTw.same ⟨h2.1.symm, h2.2.1.symm, fun a j c => (h2.2.2 a j c).symm⟩)) (fun j j1 j2 => h3 j j1 (by omega))⟩)
      · refine zs_aload_n hΓ dX5_layAside_9 (pc' := 10) rfl rfl rfl ?_
        refine zs_getrE hΓ dX5_layAside_10 (pc' := 13) rfl fX5_37 (i9 := 7) rfl rfl (tw_t hTw) (tw_p7 hTw) ?_
        refine zs_iload_n hΓ dX5_layAside_13 (pc' := 14) rfl rfl rfl ?_
        refine zs_aload_n hΓ dX5_layAside_14 (pc' := 15) rfl rfl rfl ?_
        refine zs_getrE hΓ dX5_layAside_15 (pc' := 18) rfl fX5_30 (i9 := 5) rfl rfl (tw_t hTw) (tw_p5 hTw) ?_
        refine zs_iload_n hΓ dX5_layAside_18 (pc' := 19) rfl rfl rfl ?_
        refine zs_iald hΓ dX5_layAside_19 (pc' := 20) rfl (tw_a5 hTw) (by omega) (by omega) ?_
        refine zs_iast hΓ dX5_layAside_20 (pc' := 21) rfl (tw_a7 hTw) (by decide) (by omega) (by omega) ?_
        refine zs_iinc hΓ dX5_layAside_21 (pc' := 24) rfl (L' := [some (zR _), some (zI _)]) rfl (by unfold inI; omega) (by decide) rfl rfl ?_
        refine zs_goto hΓ dX5_layAside_24 (tgt := 2) (by decide) ?_
        exact ih (i + 1) _ (by omega) (h2.set rfl) (fun j j1 j2 => by rw [gI_setI]; rcases (show j < i ∨ j = i by omega) with q | q; rw [if_neg (by omega)]; exact h3 j j1 q; rw [if_pos ⟨rfl, q⟩, q, e5]) (by omega)
  refine zs_iconst hΓ dX5_layAside_0 (pc' := 1) rfl ⟨by decide, by decide⟩ ?_
  refine zs_istore_n hΓ dX5_layAside_1 (pc' := 2) rfl (L' := [some (zR _), some (zI _)]) rfl (by decide) rfl rfl ?_
  exact lp 2315 0 h (by omega) (Same.rf _ _) (fun j _ _ => by omega) (by omega)
theorem con_X5_layBack (l : Launch) {h : zH} (hTw : TwT h) : Con l mX5_layBack 1 0 0 [zR (some (1, 0))] h (rV fun h' => Same (fun a _ => a = (1, 5)) h h' ∧ gI h' (1, 5) = gI h (1, 7)) zNo := by
  refine Con.ofS (by decide +kernel) (Nat.le_of_ble_eq_true rfl) fun Γ hΓ hno hwf hav => ?_
  have hΓ : Ctx Γ l cX5_layBack RX5 "layBack" 2 (Option.none : Option Jvm.ClassFile.FieldType) _ _ 1 _ _ := hΓ
  show SS Γ 0 [some (zR _), none] [] _ 0 0
  have lp : ∀ (n9 : Nat) (i : Int) (h' : zH), (0 ≤ i ∧ i ≤ 2314) → (Same (fun a _ => a = (1, 5)) h h') → (∀ j, 0 ≤ j → j < i → gI h' (1, 5) j = gI h (1, 7) j) → (2314 - i < n9) → SS Γ 2 [some (zR (some (1, 0))), some (zI i)] [] h' 0 0 := by
    intro n9
    induction n9 with
    | zero => intro i h' h1 h2 h3 hm9; exact absurd hm9 (by omega)
    | succ n9 ih =>
      intro i h' h1 h2 h3 hm9
      have hTw := hTw.same h2
      have e5 : gI h' (1, 7) i = gI h (1, 7) i := h2.2.2 (1, 7) i n75
      refine zs_iload_n hΓ dX5_layBack_2 (pc' := 3) rfl rfl rfl ?_
      refine zs_sipush hΓ dX5_layBack_3 (pc' := 6) rfl ⟨by decide, by decide⟩ ?_
      refine zs_icmpge hΓ dX5_layBack_6 (tgt := 27) (by decide) (pc' := 9) rfl (fun c_6 => ?_) (fun c_6 => ?_)
      · refine zs_wf fun hwf' => ?_
        exact zs_vret hΓ dX5_layBack_27 rfl (by omega) (by omega) (⟨rfl, h2, row_ext hwf' hwf (tw_a5 hTw) (tw_a7 (hTw.same ⟨h2.1.symm, h2.2.1.symm, fun a j c => (h2.2.2 a j c).symm⟩)) (fun j j1 j2 => h3 j j1 (by omega))⟩)
      · refine zs_aload_n hΓ dX5_layBack_9 (pc' := 10) rfl rfl rfl ?_
        refine zs_getrE hΓ dX5_layBack_10 (pc' := 13) rfl fX5_30 (i9 := 5) rfl rfl (tw_t hTw) (tw_p5 hTw) ?_
        refine zs_iload_n hΓ dX5_layBack_13 (pc' := 14) rfl rfl rfl ?_
        refine zs_aload_n hΓ dX5_layBack_14 (pc' := 15) rfl rfl rfl ?_
        refine zs_getrE hΓ dX5_layBack_15 (pc' := 18) rfl fX5_37 (i9 := 7) rfl rfl (tw_t hTw) (tw_p7 hTw) ?_
        refine zs_iload_n hΓ dX5_layBack_18 (pc' := 19) rfl rfl rfl ?_
        refine zs_iald hΓ dX5_layBack_19 (pc' := 20) rfl (tw_a7 hTw) (by omega) (by omega) ?_
        refine zs_iast hΓ dX5_layBack_20 (pc' := 21) rfl (tw_a5 hTw) (by decide) (by omega) (by omega) ?_
        refine zs_iinc hΓ dX5_layBack_21 (pc' := 24) rfl (L' := [some (zR _), some (zI _)]) rfl (by unfold inI; omega) (by decide) rfl rfl ?_
        refine zs_goto hΓ dX5_layBack_24 (tgt := 2) (by decide) ?_
        exact ih (i + 1) _ (by omega) (h2.set rfl) (fun j j1 j2 => by rw [gI_setI]; rcases (show j < i ∨ j = i by omega) with q | q; rw [if_neg (by omega)]; exact h3 j j1 q; rw [if_pos ⟨rfl, q⟩, q, e5]) (by omega)
  refine zs_iconst hΓ dX5_layBack_0 (pc' := 1) rfl ⟨by decide, by decide⟩ ?_
  refine zs_istore_n hΓ dX5_layBack_1 (pc' := 2) rfl (L' := [some (zR _), some (zI _)]) rfl (by decide) rfl rfl ?_
  exact lp 2315 0 h (by omega) (Same.rf _ _) (fun j _ _ => by omega) (by omega)
theorem con_X5_wornMany (l : Launch) {h : zH} (hTw : TwT h) (hw : RW (gI h (1, 5))) : Con l mX5_wornMany 3 0 0 [zR (some (1, 0))] h (rI fun x h' => x = sNet (gI h (1, 5)) (gI h (1, 0) 28) ∧ h' = h) zNo := by
  refine Con.ofS (by decide +kernel) (Nat.le_of_ble_eq_true rfl) fun Γ hΓ hno hwf hav => ?_
  have hΓ : Ctx Γ l cX5_wornMany RX5 "wornMany" 3 (Option.some Jvm.ClassFile.FieldType.int) _ _ 3 _ _ := hΓ
  show SS Γ 0 [some (zR _), none, none] [] _ 0 0
  have hc := hw.c
  have lp : ∀ (n9 : Nat) (i s : Int), (0 ≤ i ∧ i ≤ gI h (1, 5) 0 * gI h (1, 5) 1) → (s = cntP (fun c => sWorn (gI h (1, 5)) (gI h (1, 0) 28) c) i.toNat) → (gI h (1, 5) 0 * gI h (1, 5) 1 - i < n9) → SS Γ 4 [some (zR (some (1, 0))), some (zI s), some (zI i)] [] h 0 0 := by
    intro n9
    induction n9 with
    | zero => intro i s h1 h2 hm9; exact absurd hm9 (by omega)
    | succ n9 ih =>
      intro i s h1 h2 hm9
      have hs := cntP_r (fun c => sWorn (gI h (1, 5)) (gI h (1, 0) 28) c) i.toNat
      have hs' := cntP_s (fun c => sWorn (gI h (1, 5)) (gI h (1, 0) 28) c) h1.1
      refine zs_iload_n hΓ dX5_wornMany_4 (pc' := 5) rfl rfl rfl ?_
      refine zs_aload_n hΓ dX5_wornMany_5 (pc' := 6) rfl rfl rfl ?_
      refine zs_callVIP hΓ dX5_wornMany_6 (pc' := 9) rfl kX5_128 (con_X5_cells l hTw hw) (tw_t hTw) rfl rfl rfl (Nat.le_of_ble_eq_true rfl) (by omega) (by decide) (by omega) (by omega) ?_ (fun _ _ q _ => False.elim q)
      refine zs_icmpge hΓ dX5_wornMany_9 (tgt := 34) (by decide) (pc' := 12) rfl (fun c_9 => ?_) (fun c_9 => ?_)
      · refine zs_iload_n hΓ dX5_wornMany_34 (pc' := 35) rfl rfl rfl ?_
        exact zs_iret hΓ dX5_wornMany_35 rfl (by omega) (by omega) (⟨_, rfl, (by rw [h2, show i = gI h (1, 5) 0 * gI h (1, 5) 1 by omega]; rfl), rfl⟩)
      · refine zs_iload_n hΓ dX5_wornMany_12 (pc' := 13) rfl rfl rfl ?_
        refine zs_aload_n hΓ dX5_wornMany_13 (pc' := 14) rfl rfl rfl ?_
        refine zs_iload_n hΓ dX5_wornMany_14 (pc' := 15) rfl rfl rfl ?_
        refine zs_callVIP hΓ dX5_wornMany_15 (pc' := 18) rfl kX5_140 (con_X5_isWorn l hTw i (by omega)) (tw_t hTw) rfl rfl rfl (Nat.le_of_ble_eq_true rfl) (by omega) (by decide) (by omega) (by omega) ?_ (fun _ _ q _ => False.elim q)
        refine zs_ifeq hΓ dX5_wornMany_18 (tgt := 25) (by decide) (pc' := 21) rfl (fun c_18 => ?_) (fun c_18 => ?_)
        · try have c_18 := iB_eq c_18
          have c_18 := iB_f c_18
          refine zs_iconst hΓ dX5_wornMany_25 (pc' := 26) rfl ⟨by decide, by decide⟩ ?_
          refine zs_iadd hΓ dX5_wornMany_26 (pc' := 27) rfl (by unfold inI; omega) ?_
          refine zs_istore_n hΓ dX5_wornMany_27 (pc' := 28) rfl (L' := [some (zR _), some (zI _), some (zI _)]) rfl (by decide) rfl rfl ?_
          refine zs_iinc hΓ dX5_wornMany_28 (pc' := 31) rfl (L' := [some (zR _), some (zI _), some (zI _)]) rfl (by unfold inI; omega) (by decide) rfl rfl ?_
          refine zs_goto hΓ dX5_wornMany_31 (tgt := 4) (by decide) ?_
          exact ih (i + 1) _ (by omega) (by omega) (by omega)
        · try have c_18 := iB_ne c_18
          have c_18 := iB_t c_18
          refine zs_iconst hΓ dX5_wornMany_21 (pc' := 22) rfl ⟨by decide, by decide⟩ ?_
          refine zs_goto hΓ dX5_wornMany_22 (tgt := 26) (by decide) ?_
          refine zs_iadd hΓ dX5_wornMany_26 (pc' := 27) rfl (by unfold inI; omega) ?_
          refine zs_istore_n hΓ dX5_wornMany_27 (pc' := 28) rfl (L' := [some (zR _), some (zI _), some (zI _)]) rfl (by decide) rfl rfl ?_
          refine zs_iinc hΓ dX5_wornMany_28 (pc' := 31) rfl (L' := [some (zR _), some (zI _), some (zI _)]) rfl (by unfold inI; omega) (by decide) rfl rfl ?_
          refine zs_goto hΓ dX5_wornMany_31 (tgt := 4) (by decide) ?_
          exact ih (i + 1) _ (by omega) (by omega) (by omega)
  refine zs_iconst hΓ dX5_wornMany_0 (pc' := 1) rfl ⟨by decide, by decide⟩ ?_
  refine zs_istore_n hΓ dX5_wornMany_1 (pc' := 2) rfl (L' := [some (zR _), some (zI _), none]) rfl (by decide) rfl rfl ?_
  refine zs_iconst hΓ dX5_wornMany_2 (pc' := 3) rfl ⟨by decide, by decide⟩ ?_
  refine zs_istore_n hΓ dX5_wornMany_3 (pc' := 4) rfl (L' := [some (zR _), some (zI _), some (zI _)]) rfl (by decide) rfl rfl ?_
  exact lp 257 0 0 (by omega) rfl (by omega)
theorem con_X5_thrown (l : Launch) {h : zH} (hTw : TwT h) : Con l mX5_thrown 1 0 0 [zR (some (1, 0))] h (rI fun x h' => x = gI h (1, 0) 0 ∧ h' = h) zNo := by
  refine Con.ofS (by decide +kernel) (Nat.le_of_ble_eq_true rfl) fun Γ hΓ hno hwf hav => ?_
  have hΓ : Ctx Γ l cX5_thrown RX5 "thrown" 1 (Option.some Jvm.ClassFile.FieldType.int) _ _ 1 _ _ := hΓ
  show SS Γ 0 [some (zR _)] [] _ 0 0
  refine zs_aload_n hΓ dX5_thrown_0 (pc' := 1) rfl rfl rfl ?_
  refine zs_geti hΓ dX5_thrown_1 (pc' := 4) rfl fX5_1 (i9 := 0) rfl rfl (tw_t hTw) ?_
  exact zs_iret hΓ dX5_thrown_4 rfl (by omega) (by omega) (⟨_, rfl, rfl, rfl⟩)
theorem con_X5_throwsIf (l : Launch) {h : zH} (hTw : TwT h) (b : Int) (hb : b = 0 ∨ b = 1) : Con l mX5_throwsIf 1 0 0 [zR (some (1, 0)), zI b] h (rI fun x h' => x = b ∧ h' = setI h (1, 0) 0 b) zNo := by
  refine Con.ofS (by decide +kernel) (Nat.le_of_ble_eq_true rfl) fun Γ hΓ hno hwf hav => ?_
  have hΓ : Ctx Γ l cX5_throwsIf RX5 "throwsIf" 2 (Option.some Jvm.ClassFile.FieldType.boolean) _ _ 1 _ _ := hΓ
  show SS Γ 0 [some (zR _), some (zI _)] [] _ 0 0
  refine zs_aload_n hΓ dX5_throwsIf_0 (pc' := 1) rfl rfl rfl ?_
  refine zs_iload_n hΓ dX5_throwsIf_1 (pc' := 2) rfl rfl rfl ?_
  refine zs_ifeq hΓ dX5_throwsIf_2 (tgt := 9) (by decide) (pc' := 5) rfl (fun c_2 => ?_) (fun c_2 => ?_)
  · refine zs_iconst hΓ dX5_throwsIf_9 (pc' := 10) rfl ⟨by decide, by decide⟩ ?_
    refine zs_puti hΓ dX5_throwsIf_10 (pc' := 13) rfl fX5_1 (fun q hq => (by cases hq; exact Or.inl rfl)) (i9 := 0) rfl trivial (tw_t hTw) (by decide) ?_
    refine zs_iload_n hΓ dX5_throwsIf_13 (pc' := 14) rfl rfl rfl ?_
    exact zs_zret hΓ dX5_throwsIf_14 rfl (by first | omega | exact iB_01 _) (by omega) (by omega) (⟨_, rfl, rfl, by rw [c_2]⟩)
  · refine zs_iconst hΓ dX5_throwsIf_5 (pc' := 6) rfl ⟨by decide, by decide⟩ ?_
    refine zs_goto hΓ dX5_throwsIf_6 (tgt := 10) (by decide) ?_
    refine zs_puti hΓ dX5_throwsIf_10 (pc' := 13) rfl fX5_1 (fun q hq => (by cases hq; exact Or.inl rfl)) (i9 := 0) rfl trivial (tw_t hTw) (by decide) ?_
    refine zs_iload_n hΓ dX5_throwsIf_13 (pc' := 14) rfl rfl rfl ?_
    exact zs_zret hΓ dX5_throwsIf_14 rfl (by first | omega | exact iB_01 _) (by omega) (by omega) (⟨_, rfl, rfl, by rw [show b = 1 by omega]⟩)
theorem con_X5_taken (l : Launch) {h : zH} (hTw : TwT h) : Con l mX5_taken 1 0 0 [zR (some (1, 0))] h (rV fun h' => h' = setI (setI (setI h (1, 0) 3 (gI h (1, 0) 2)) (1, 0) 2 0) (1, 0) 4 0) zNo := by
  refine Con.ofS (by decide +kernel) (Nat.le_of_ble_eq_true rfl) fun Γ hΓ hno hwf hav => ?_
  have hΓ : Ctx Γ l cX5_taken RX5 "taken" 1 (Option.none : Option Jvm.ClassFile.FieldType) _ _ 1 _ _ := hΓ
  show SS Γ 0 [some (zR _)] [] _ 0 0
  refine zs_aload_n hΓ dX5_taken_0 (pc' := 1) rfl rfl rfl ?_
  refine zs_aload_n hΓ dX5_taken_1 (pc' := 2) rfl rfl rfl ?_
  refine zs_geti hΓ dX5_taken_2 (pc' := 5) rfl fX5_7 (i9 := 2) rfl rfl (tw_t hTw) ?_
  refine zs_puti hΓ dX5_taken_5 (pc' := 8) rfl fX5_18 (fun q hq => (by cases hq; exact Or.inl rfl)) (i9 := 3) rfl trivial (tw_t hTw) (by decide) ?_
  refine zs_aload_n hΓ dX5_taken_8 (pc' := 9) rfl rfl rfl ?_
  refine zs_iconst hΓ dX5_taken_9 (pc' := 10) rfl ⟨by decide, by decide⟩ ?_
  refine zs_puti hΓ dX5_taken_10 (pc' := 13) rfl fX5_7 (fun q hq => (by cases hq; exact Or.inl rfl)) (i9 := 2) rfl trivial (tw_t hTw) (by decide) ?_
  refine zs_aload_n hΓ dX5_taken_13 (pc' := 14) rfl rfl rfl ?_
  refine zs_iconst hΓ dX5_taken_14 (pc' := 15) rfl ⟨by decide, by decide⟩ ?_
  refine zs_puti hΓ dX5_taken_15 (pc' := 18) rfl fX5_21 (fun q hq => (by cases hq; exact Or.inl rfl)) (i9 := 4) rfl trivial (tw_t hTw) (by decide) ?_
  exact zs_vret hΓ dX5_taken_18 rfl (by omega) (by omega) (⟨rfl, rfl⟩)
theorem con_X5_put (l : Launch) {h : zH} (hTw : TwT h) (c k : Int) (hc : 0 ≤ c ∧ c < 256) (hk : 0 ≤ k ∧ k ≤ 6) : Con l mX5_put 3 0 0 [zR (some (1, 0)), zI c, zI k] h (rV fun h' => Same (fun a _ => a = (1, 5)) h h' ∧ gI h' (1, 5) = sLay (gI h (1, 5)) c k) zNo := by
  refine Con.ofS (by decide +kernel) (Nat.le_of_ble_eq_true rfl) fun Γ hΓ hno hwf hav => ?_
  have hΓ : Ctx Γ l cX5_put RX5 "put" 3 (Option.none : Option Jvm.ClassFile.FieldType) _ _ 3 _ _ := hΓ
  show SS Γ 0 [some (zR _), some (zI _), some (zI _)] [] _ 0 0
  have e0 : cel (upR (gI h (1, 5)) (522 + 7 * c + 0) k) c 0 = k := upR_s _ _ _
  have e1 : 522 + 7 * c + 0 = 522 + 7 * c := by omega
  refine zs_aload_n hΓ dX5_put_0 (pc' := 1) rfl rfl rfl ?_
  refine zs_iload_n hΓ dX5_put_1 (pc' := 2) rfl rfl rfl ?_
  refine zs_iconst hΓ dX5_put_2 (pc' := 3) rfl ⟨by decide, by decide⟩ ?_
  refine zs_iload_n hΓ dX5_put_3 (pc' := 4) rfl rfl rfl ?_
  refine zs_callVVE hΓ dX5_put_4 (pc' := 7) rfl kX5_151 (con_X5_set l hTw c 0 k hc (by decide)) (tw_t hTw) rfl rfl rfl (Nat.le_of_ble_eq_true rfl) (by omega) (by decide) (by omega) (by omega) ?_ (fun _ _ q _ => False.elim q)
  refine zs_aload_n hΓ dX5_put_7 (pc' := 8) rfl rfl rfl ?_
  refine zs_iload_n hΓ dX5_put_8 (pc' := 9) rfl rfl rfl ?_
  refine zs_callVIP hΓ dX5_put_9 (pc' := 12) rfl kX5_356 (con_X5_isGreen l (h := setI h (1, 5) (522 + 7 * c + 0) k) hTw c hc) (tw_t hTw) rfl rfl rfl (Nat.le_of_ble_eq_true rfl) (by omega) (by decide) (by omega) (by omega) ?_ (fun _ _ q _ => False.elim q)
  refine zs_ifne hΓ dX5_put_12 (tgt := 22) (by decide) (pc' := 15) rfl (fun c_12 => ?_) (fun c_12 => ?_)
  · try have c_12 := iB_ne c_12
    rw [gI_up] at c_12
    exact zs_vret hΓ dX5_put_22 rfl (by omega) (by omega) (⟨rfl, (Same.rf _ _).set rfl, by unfold sLay; rw [if_pos (by omega), gI_up, e1]⟩)
  · try have c_12 := iB_eq c_12
    rw [gI_up] at c_12
    refine zs_aload_n hΓ dX5_put_15 (pc' := 16) rfl rfl rfl ?_
    refine zs_iload_n hΓ dX5_put_16 (pc' := 17) rfl rfl rfl ?_
    refine zs_iconst hΓ dX5_put_17 (pc' := 18) rfl ⟨by decide, by decide⟩ ?_
    refine zs_iconst hΓ dX5_put_18 (pc' := 19) rfl ⟨by decide, by decide⟩ ?_
    refine zs_callVVE hΓ dX5_put_19 (pc' := 22) rfl kX5_151 (con_X5_set l (h := setI h (1, 5) (522 + 7 * c + 0) k) hTw c 3 0 hc (by decide)) (tw_t hTw) rfl rfl rfl (Nat.le_of_ble_eq_true rfl) (by omega) (by decide) (by omega) (by omega) ?_ (fun _ _ q _ => False.elim q)
    exact zs_vret hΓ dX5_put_22 rfl (by omega) (by omega) (⟨rfl, ((Same.rf _ _).set rfl).set rfl, by unfold sLay; rw [if_neg (by omega), gI_up, gI_up, e1]⟩)
