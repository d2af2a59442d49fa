/-! THE TWIN, C: public methods of small reach; each sets 'thrown' first: h1 is the heap behind that -/
set_option maxRecDepth 100000
theorem TwT.thr {h h1 : zH} (e1 : h1 = setI h (1, 0) 0 0) (hTw : TwT h1) : TwT h := by
  rw [e1] at hTw
  exact hTw
theorem con_X5_fault (l : Launch) {h h1 : zH} (e1 : h1 = setI h (1, 0) 0 0) (hT1 : TwT h1) : Con l mX5_fault 1 0 0 [zR (some (1, 0))] h (rI fun x h' => x = gI h1 (1, 0) 26 ∧ h' = h1) zNo := by
  refine Con.ofS (by decide +kernel) (Nat.le_of_ble_eq_true rfl) fun Γ hΓ hno hwf hav => ?_
  have hΓ : Ctx Γ l cX5_fault RX5 "fault" 1 (Option.some Jvm.ClassFile.FieldType.int) _ _ 1 _ _ := hΓ
  show SS Γ 0 [some (zR _)] [] _ 0 0
  have hTw := hT1.thr e1
  refine zs_aload_n hΓ dX5_fault_0 (pc' := 1) rfl rfl rfl ?_
  refine zs_iconst hΓ dX5_fault_1 (pc' := 2) rfl ⟨by decide, by decide⟩ ?_
  refine zs_puti hΓ dX5_fault_2 (pc' := 5) rfl fX5_1 (fun q hq => (by cases hq; exact Or.inl rfl)) (i9 := 0) rfl trivial (tw_t hTw) (by decide) ?_
  rw [← e1]; have hTw := hT1
  refine zs_aload_n hΓ dX5_fault_5 (pc' := 6) rfl rfl rfl ?_
  refine zs_geti hΓ dX5_fault_6 (pc' := 9) rfl fX5_189 (i9 := 26) rfl rfl (tw_t hTw) ?_
  exact zs_iret hΓ dX5_fault_9 rfl (by omega) (by omega) (⟨_, rfl, rfl, rfl⟩)
theorem con_X5_end (l : Launch) {h h1 : zH} (e1 : h1 = setI h (1, 0) 0 0) (hT1 : TwT h1) (n : Int) : Con l mX5_end 1 0 0 [zR (some (1, 0)), zI n] h (rI fun x h' => (0 ≤ n ∧ n ≤ gI h1 (1, 0) 2 → x = 1 ∧ h' = setI h1 (1, 0) 2 n) ∧ (¬ (0 ≤ n ∧ n ≤ gI h1 (1, 0) 2) → x = 0 ∧ h' = h1)) zNo := by
  refine Con.ofS (by decide +kernel) (Nat.le_of_ble_eq_true rfl) fun Γ hΓ hno hwf hav => ?_
  have hΓ : Ctx Γ l cX5_end RX5 "end" 2 (Option.some Jvm.ClassFile.FieldType.boolean) _ _ 1 _ _ := hΓ
  show SS Γ 0 [some (zR _), some (zI _)] [] _ 0 0
  have hTw := hT1.thr e1
  refine zs_aload_n hΓ dX5_end_0 (pc' := 1) rfl rfl rfl ?_
  refine zs_iconst hΓ dX5_end_1 (pc' := 2) rfl ⟨by decide, by decide⟩ ?_
  refine zs_puti hΓ dX5_end_2 (pc' := 5) rfl fX5_1 (fun q hq => (by cases hq; exact Or.inl rfl)) (i9 := 0) rfl trivial (tw_t hTw) (by decide) ?_
  rw [← e1]; have hTw := hT1
  refine zs_iload_n hΓ dX5_end_5 (pc' := 6) rfl rfl rfl ?_
  refine zs_iflt hΓ dX5_end_6 (tgt := 17) (by decide) (pc' := 9) rfl (fun c_6 => ?_) (fun c_6 => ?_)
  · refine zs_iconst hΓ dX5_end_17 (pc' := 18) rfl ⟨by decide, by decide⟩ ?_
    exact zs_zret hΓ dX5_end_18 rfl (by first | omega | exact iB_01 _) (by omega) (by omega) (⟨_, rfl, fun z => by omega, fun _ => ⟨rfl, rfl⟩⟩)
  · refine zs_iload_n hΓ dX5_end_9 (pc' := 10) rfl rfl rfl ?_
    refine zs_aload_n hΓ dX5_end_10 (pc' := 11) rfl rfl rfl ?_
    refine zs_geti hΓ dX5_end_11 (pc' := 14) rfl fX5_7 (i9 := 2) rfl rfl (tw_t hTw) ?_
    refine zs_icmple hΓ dX5_end_14 (tgt := 19) (by decide) (pc' := 17) rfl (fun c_14 => ?_) (fun c_14 => ?_)
    · refine zs_aload_n hΓ dX5_end_19 (pc' := 20) rfl rfl rfl ?_
      refine zs_iload_n hΓ dX5_end_20 (pc' := 21) rfl rfl rfl ?_
      refine zs_puti hΓ dX5_end_21 (pc' := 24) rfl fX5_7 (fun q hq => (by cases hq; exact Or.inl rfl)) (i9 := 2) rfl trivial (tw_t hTw) (by decide) ?_
      refine zs_iconst hΓ dX5_end_24 (pc' := 25) rfl ⟨by decide, by decide⟩ ?_
      exact zs_zret hΓ dX5_end_25 rfl (by first | omega | exact iB_01 _) (by omega) (by omega) (⟨_, rfl, fun _ => ⟨rfl, rfl⟩, fun z => by omega⟩)
    · refine zs_iconst hΓ dX5_end_17 (pc' := 18) rfl ⟨by decide, by decide⟩ ?_
      exact zs_zret hΓ dX5_end_18 rfl (by first | omega | exact iB_01 _) (by omega) (by omega) (⟨_, rfl, fun z => by omega, fun _ => ⟨rfl, rfl⟩⟩)
theorem con_X5_net (l : Launch) {h h1 : zH} (e1 : h1 = setI h (1, 0) 0 0) (hT1 : TwT h1) (hw : RW (gI h1 (1, 5))) : Con l mX5_net 4 0 0 [zR (some (1, 0))] h (rI fun x h' => x = sNet (gI h1 (1, 5)) (gI h1 (1, 0) 28) ∧ h' = h1) zNo := by
  refine Con.ofS (by decide +kernel) (Nat.le_of_ble_eq_true rfl) fun Γ hΓ hno hwf hav => ?_
  have hΓ : Ctx Γ l cX5_net RX5 "net" 1 (Option.some Jvm.ClassFile.FieldType.int) _ _ 4 _ _ := hΓ
  show SS Γ 0 [some (zR _)] [] _ 0 0
  have hTw := hT1.thr e1
  refine zs_aload_n hΓ dX5_net_0 (pc' := 1) rfl rfl rfl ?_
  refine zs_iconst hΓ dX5_net_1 (pc' := 2) rfl ⟨by decide, by decide⟩ ?_
  refine zs_puti hΓ dX5_net_2 (pc' := 5) rfl fX5_1 (fun q hq => (by cases hq; exact Or.inl rfl)) (i9 := 0) rfl trivial (tw_t hTw) (by decide) ?_
  rw [← e1]; have hTw := hT1
  refine zs_aload_n hΓ dX5_net_5 (pc' := 6) rfl rfl rfl ?_
  refine zs_callVIP hΓ dX5_net_6 (pc' := 9) rfl kX5_429 (con_X5_wornMany l hTw hw) (tw_t hTw) rfl rfl rfl (Nat.le_of_ble_eq_true rfl) (by omega) (by decide) (by omega) (by omega) ?_ (fun _ _ q _ => False.elim q)
  exact zs_iret hΓ dX5_net_9 rfl (by omega) (by omega) (⟨_, rfl, rfl, rfl⟩)
theorem con_X5_price (l : Launch) {h : zH} (hTw : TwT h) (c : Int) (hc : 0 ≤ c ∧ c < 256) : Con l mX5_price 3 0 0 [zR (some (1, 0)), zI c] h (rI fun x h' => x = (if cel (gI h (1, 5)) c 0 = 0 ∨ cel (gI h (1, 5)) c 0 = 2 then 21 else 1) ∧ h' = h) zNo := by
  refine Con.ofS (by decide +kernel) (Nat.le_of_ble_eq_true rfl) fun Γ hΓ hno hwf hav => ?_
  have hΓ : Ctx Γ l cX5_price RX5 "price" 2 (Option.some Jvm.ClassFile.FieldType.int) _ _ 3 _ _ := hΓ
  show SS Γ 0 [some (zR _), some (zI _)] [] _ 0 0
  refine zs_aload_n hΓ dX5_price_0 (pc' := 1) rfl rfl rfl ?_
  refine zs_iload_n hΓ dX5_price_1 (pc' := 2) rfl rfl rfl ?_
  refine zs_callVIP hΓ dX5_price_2 (pc' := 5) rfl kX5_356 (con_X5_isGreen l hTw c hc) (tw_t hTw) rfl rfl rfl (Nat.le_of_ble_eq_true rfl) (by omega) (by decide) (by omega) (by omega) ?_ (fun _ _ q _ => False.elim q)
  refine zs_ifeq hΓ dX5_price_5 (tgt := 13) (by decide) (pc' := 8) rfl (fun c_5 => ?_) (fun c_5 => ?_)
  · try have c_5 := iB_eq c_5
    refine zs_iconst hΓ dX5_price_13 (pc' := 14) rfl ⟨by decide, by decide⟩ ?_
    exact zs_iret hΓ dX5_price_14 rfl (by omega) (by omega) (⟨_, rfl, (by rw [if_neg (by omega)]), rfl⟩)
  · try have c_5 := iB_ne c_5
    refine zs_bipush hΓ dX5_price_8 (pc' := 10) rfl ⟨by decide, by decide⟩ ?_
    refine zs_goto hΓ dX5_price_10 (tgt := 14) (by decide) ?_
    exact zs_iret hΓ dX5_price_14 rfl (by omega) (by omega) (⟨_, rfl, (by rw [if_pos (by omega)]), rfl⟩)
theorem con_X5_keep (l : Launch) {h : zH} (hTw : TwT h) (n a b : Int) : Con l mX5_keep 1 0 0 [zR (some (1, 0)), zI n, zI a, zI b] h (rI fun x h' => x = n ∧ h' = setI (setI (setI h (1, 0) 53 n) (1, 52) 0 a) (1, 52) 1 b) zNo := by
  refine Con.ofS (by decide +kernel) (Nat.le_of_ble_eq_true rfl) fun Γ hΓ hno hwf hav => ?_
  have hΓ : Ctx Γ l cX5_keep RX5 "keep" 4 (Option.some Jvm.ClassFile.FieldType.int) _ _ 1 _ _ := hΓ
  show SS Γ 0 [some (zR _), some (zI _), some (zI _), some (zI _)] [] _ 0 0
  refine zs_aload_n hΓ dX5_keep_0 (pc' := 1) rfl rfl rfl ?_
  refine zs_iload_n hΓ dX5_keep_1 (pc' := 2) rfl rfl rfl ?_
  refine zs_puti hΓ dX5_keep_2 (pc' := 5) rfl fX5_485 (fun q hq => (by cases hq; exact Or.inl rfl)) (i9 := 53) rfl trivial (tw_t hTw) (by decide) ?_
  refine zs_aload_n hΓ dX5_keep_5 (pc' := 6) rfl rfl rfl ?_
  refine zs_getrE hΓ dX5_keep_6 (pc' := 9) rfl fX5_107 (i9 := 52) rfl rfl (tw_t hTw) (tw_p52 hTw) ?_
  refine zs_iconst hΓ dX5_keep_9 (pc' := 10) rfl ⟨by decide, by decide⟩ ?_
  refine zs_iload_n hΓ dX5_keep_10 (pc' := 11) rfl rfl rfl ?_
  refine zs_iast hΓ dX5_keep_11 (pc' := 12) rfl (tw_a52 hTw) (by decide) (by omega) (by omega) ?_
  refine zs_aload_n hΓ dX5_keep_12 (pc' := 13) rfl rfl rfl ?_
  refine zs_getrE hΓ dX5_keep_13 (pc' := 16) rfl fX5_107 (i9 := 52) rfl rfl (tw_t hTw) (tw_p52 hTw) ?_
  refine zs_iconst hΓ dX5_keep_16 (pc' := 17) rfl ⟨by decide, by decide⟩ ?_
  refine zs_iload_n hΓ dX5_keep_17 (pc' := 18) rfl rfl rfl ?_
  refine zs_iast hΓ dX5_keep_18 (pc' := 19) rfl (tw_a52 hTw) (by decide) (by omega) (by omega) ?_
  refine zs_iload_n hΓ dX5_keep_19 (pc' := 20) rfl rfl rfl ?_
  exact zs_iret hΓ dX5_keep_20 rfl (by omega) (by omega) (⟨_, rfl, rfl, rfl⟩)
theorem con_X5_fenceAt (l : Launch) {h h1 : zH} (e1 : h1 = setI h (1, 0) 0 0) (hT1 : TwT h1) (k : Int) (hn : 0 ≤ gI h1 (1, 0) 53 ∧ gI h1 (1, 0) 53 ≤ 2) : Con l mX5_fenceAt 2 0 0 [zR (some (1, 0)), zI k] h (rI fun x h' => x = (if 0 ≤ k ∧ k ≤ gI h1 (1, 0) 53 - 1 then gI h1 (1, 52) k else -1) ∧ h' = h1) zNo := by
  refine Con.ofS (by decide +kernel) (Nat.le_of_ble_eq_true rfl) fun Γ hΓ hno hwf hav => ?_
  have hΓ : Ctx Γ l cX5_fenceAt RX5 "fenceAt" 2 (Option.some Jvm.ClassFile.FieldType.int) _ _ 2 _ _ := hΓ
  show SS Γ 0 [some (zR _), some (zI _)] [] _ 0 0
  have hTw := hT1.thr e1
  refine zs_aload_n hΓ dX5_fenceAt_0 (pc' := 1) rfl rfl rfl ?_
  refine zs_iconst hΓ dX5_fenceAt_1 (pc' := 2) rfl ⟨by decide, by decide⟩ ?_
  refine zs_puti hΓ dX5_fenceAt_2 (pc' := 5) rfl fX5_1 (fun q hq => (by cases hq; exact Or.inl rfl)) (i9 := 0) rfl trivial (tw_t hTw) (by decide) ?_
  rw [← e1]; have hTw := hT1
  refine zs_iload_n hΓ dX5_fenceAt_5 (pc' := 6) rfl rfl rfl ?_
  refine zs_iconst hΓ dX5_fenceAt_6 (pc' := 7) rfl ⟨by decide, by decide⟩ ?_
  refine zs_aload_n hΓ dX5_fenceAt_7 (pc' := 8) rfl rfl rfl ?_
  refine zs_geti hΓ dX5_fenceAt_8 (pc' := 11) rfl fX5_485 (i9 := 53) rfl rfl (tw_t hTw) ?_
  refine zs_iconst hΓ dX5_fenceAt_11 (pc' := 12) rfl ⟨by decide, by decide⟩ ?_
  refine zs_isub hΓ dX5_fenceAt_12 (pc' := 13) rfl (by unfold inI; omega) ?_
  refine zs_callSIP hΓ dX5_fenceAt_13 (pc' := 16) rfl kX5_132 (con_X5_isIn l _ _ _) rfl rfl (Nat.le_of_ble_eq_true rfl) (by omega) (by decide) (by omega) (by omega) ?_ (fun _ _ q _ => False.elim q)
  refine zs_ifeq hΓ dX5_fenceAt_16 (tgt := 28) (by decide) (pc' := 19) rfl (fun c_16 => ?_) (fun c_16 => ?_)
  · try have c_16 := iB_eq c_16
    refine zs_iconst hΓ dX5_fenceAt_28 (pc' := 29) rfl ⟨by decide, by decide⟩ ?_
    exact zs_iret hΓ dX5_fenceAt_29 rfl (by omega) (by omega) (⟨_, rfl, (by rw [if_neg c_16]), rfl⟩)
  · try have c_16 := iB_ne c_16
    refine zs_aload_n hΓ dX5_fenceAt_19 (pc' := 20) rfl rfl rfl ?_
    refine zs_getrE hΓ dX5_fenceAt_20 (pc' := 23) rfl fX5_107 (i9 := 52) rfl rfl (tw_t hTw) (tw_p52 hTw) ?_
    refine zs_iload_n hΓ dX5_fenceAt_23 (pc' := 24) rfl rfl rfl ?_
    refine zs_iald hΓ dX5_fenceAt_24 (pc' := 25) rfl (tw_a52 hTw) (by omega) (by omega) ?_
    refine zs_goto hΓ dX5_fenceAt_25 (tgt := 29) (by decide) ?_
    exact zs_iret hΓ dX5_fenceAt_29 rfl (by omega) (by omega) (⟨_, rfl, (by rw [if_pos c_16]), rfl⟩)
theorem con_X5_wayAt (l : Launch) {h h1 : zH} (e1 : h1 = setI h (1, 0) 0 0) (hT1 : TwT h1) (k : Int) (hn : 0 ≤ gI h1 (1, 0) 61 ∧ gI h1 (1, 0) 61 ≤ 201) : Con l mX5_wayAt 2 0 0 [zR (some (1, 0)), zI k] h (rI fun x h' => x = (if 0 ≤ k ∧ k ≤ gI h1 (1, 0) 61 - 1 then gI h1 (1, 55) k else -1) ∧ h' = h1) zNo := by
  refine Con.ofS (by decide +kernel) (Nat.le_of_ble_eq_true rfl) fun Γ hΓ hno hwf hav => ?_
  have hΓ : Ctx Γ l cX5_wayAt RX5 "wayAt" 2 (Option.some Jvm.ClassFile.FieldType.int) _ _ 2 _ _ := hΓ
  show SS Γ 0 [some (zR _), some (zI _)] [] _ 0 0
  have hTw := hT1.thr e1
  refine zs_aload_n hΓ dX5_wayAt_0 (pc' := 1) rfl rfl rfl ?_
  refine zs_iconst hΓ dX5_wayAt_1 (pc' := 2) rfl ⟨by decide, by decide⟩ ?_
  refine zs_puti hΓ dX5_wayAt_2 (pc' := 5) rfl fX5_1 (fun q hq => (by cases hq; exact Or.inl rfl)) (i9 := 0) rfl trivial (tw_t hTw) (by decide) ?_
  rw [← e1]; have hTw := hT1
  refine zs_iload_n hΓ dX5_wayAt_5 (pc' := 6) rfl rfl rfl ?_
  refine zs_iconst hΓ dX5_wayAt_6 (pc' := 7) rfl ⟨by decide, by decide⟩ ?_
  refine zs_aload_n hΓ dX5_wayAt_7 (pc' := 8) rfl rfl rfl ?_
  refine zs_geti hΓ dX5_wayAt_8 (pc' := 11) rfl fX5_503 (i9 := 61) rfl rfl (tw_t hTw) ?_
  refine zs_iconst hΓ dX5_wayAt_11 (pc' := 12) rfl ⟨by decide, by decide⟩ ?_
  refine zs_isub hΓ dX5_wayAt_12 (pc' := 13) rfl (by unfold inI; omega) ?_
  refine zs_callSIP hΓ dX5_wayAt_13 (pc' := 16) rfl kX5_132 (con_X5_isIn l _ _ _) rfl rfl (Nat.le_of_ble_eq_true rfl) (by omega) (by decide) (by omega) (by omega) ?_ (fun _ _ q _ => False.elim q)
  refine zs_ifeq hΓ dX5_wayAt_16 (tgt := 28) (by decide) (pc' := 19) rfl (fun c_16 => ?_) (fun c_16 => ?_)
  · try have c_16 := iB_eq c_16
    refine zs_iconst hΓ dX5_wayAt_28 (pc' := 29) rfl ⟨by decide, by decide⟩ ?_
    exact zs_iret hΓ dX5_wayAt_29 rfl (by omega) (by omega) (⟨_, rfl, (by rw [if_neg c_16]), rfl⟩)
  · try have c_16 := iB_ne c_16
    refine zs_aload_n hΓ dX5_wayAt_19 (pc' := 20) rfl rfl rfl ?_
    refine zs_getrE hΓ dX5_wayAt_20 (pc' := 23) rfl fX5_113 (i9 := 55) rfl rfl (tw_t hTw) (tw_p55 hTw) ?_
    refine zs_iload_n hΓ dX5_wayAt_23 (pc' := 24) rfl rfl rfl ?_
    refine zs_iald hΓ dX5_wayAt_24 (pc' := 25) rfl (tw_a55 hTw) (by omega) (by omega) ?_
    refine zs_goto hΓ dX5_wayAt_25 (tgt := 29) (by decide) ?_
    exact zs_iret hΓ dX5_wayAt_29 rfl (by omega) (by omega) (⟨_, rfl, (by rw [if_pos c_16]), rfl⟩)
theorem con_X5_reads (l : Launch) {h h1 : zH} (e1 : h1 = setI h (1, 0) 0 0) (hT1 : TwT h1) (i w : Int) (hn : 0 ≤ gI h1 (1, 0) 62 ∧ gI h1 (1, 0) 62 ≤ 5) : Con l mX5_reads 2 0 0 [zR (some (1, 0)), zI i, zI w] h (rI fun x h' => x = (if 0 ≤ i ∧ i ≤ gI h1 (1, 0) 62 - 1 then (if w = 0 then gI h1 (1, 57) i else if w = 1 then gI h1 (1, 58) i else -1) else -1) ∧ h' = h1) zNo := by
  refine Con.ofS (by decide +kernel) (Nat.le_of_ble_eq_true rfl) fun Γ hΓ hno hwf hav => ?_
  have hΓ : Ctx Γ l cX5_reads RX5 "reads" 3 (Option.some Jvm.ClassFile.FieldType.int) _ _ 2 _ _ := hΓ
  show SS Γ 0 [some (zR _), some (zI _), some (zI _)] [] _ 0 0
  have hTw := hT1.thr e1
  refine zs_aload_n hΓ dX5_reads_0 (pc' := 1) rfl rfl rfl ?_
  refine zs_iconst hΓ dX5_reads_1 (pc' := 2) rfl ⟨by decide, by decide⟩ ?_
  refine zs_puti hΓ dX5_reads_2 (pc' := 5) rfl fX5_1 (fun q hq => (by cases hq; exact Or.inl rfl)) (i9 := 0) rfl trivial (tw_t hTw) (by decide) ?_
  rw [← e1]; have hTw := hT1
  refine zs_iload_n hΓ dX5_reads_5 (pc' := 6) rfl rfl rfl ?_
  refine zs_iconst hΓ dX5_reads_6 (pc' := 7) rfl ⟨by decide, by decide⟩ ?_
  refine zs_aload_n hΓ dX5_reads_7 (pc' := 8) rfl rfl rfl ?_
  refine zs_geti hΓ dX5_reads_8 (pc' := 11) rfl fX5_509 (i9 := 62) rfl rfl (tw_t hTw) ?_
  refine zs_iconst hΓ dX5_reads_11 (pc' := 12) rfl ⟨by decide, by decide⟩ ?_
  refine zs_isub hΓ dX5_reads_12 (pc' := 13) rfl (by unfold inI; omega) ?_
  refine zs_callSIP hΓ dX5_reads_13 (pc' := 16) rfl kX5_132 (con_X5_isIn l _ _ _) rfl rfl (Nat.le_of_ble_eq_true rfl) (by omega) (by decide) (by omega) (by omega) ?_ (fun _ _ q _ => False.elim q)
  refine zs_ifeq hΓ dX5_reads_16 (tgt := 28) (by decide) (pc' := 19) rfl (fun c_16 => ?_) (fun c_16 => ?_)
  · try have c_16 := iB_eq c_16
    refine zs_iconst hΓ dX5_reads_28 (pc' := 29) rfl ⟨by decide, by decide⟩ ?_
    refine zs_goto hΓ dX5_reads_29 (tgt := 51) (by decide) ?_
    exact zs_iret hΓ dX5_reads_51 rfl (by omega) (by omega) (⟨_, rfl, (by rw [if_neg c_16]), rfl⟩)
  · try have c_16 := iB_ne c_16
    refine zs_iload_n hΓ dX5_reads_19 (pc' := 20) rfl rfl rfl ?_
    refine zs_iconst hΓ dX5_reads_20 (pc' := 21) rfl ⟨by decide, by decide⟩ ?_
    refine zs_iconst hΓ dX5_reads_21 (pc' := 22) rfl ⟨by decide, by decide⟩ ?_
    refine zs_callSIP hΓ dX5_reads_22 (pc' := 25) rfl kX5_132 (con_X5_isIn l _ _ _) rfl rfl (Nat.le_of_ble_eq_true rfl) (by omega) (by decide) (by omega) (by omega) ?_ (fun _ _ q _ => False.elim q)
    refine zs_ifne hΓ dX5_reads_25 (tgt := 32) (by decide) (pc' := 28) rfl (fun c_25 => ?_) (fun c_25 => ?_)
    · try have c_25 := iB_ne c_25
      refine zs_iload_n hΓ dX5_reads_32 (pc' := 33) rfl rfl rfl ?_
      refine zs_ifne hΓ dX5_reads_33 (tgt := 45) (by decide) (pc' := 36) rfl (fun c_33 => ?_) (fun c_33 => ?_)
      · refine zs_aload_n hΓ dX5_reads_45 (pc' := 46) rfl rfl rfl ?_
        refine zs_getrE hΓ dX5_reads_46 (pc' := 49) rfl fX5_122 (i9 := 58) rfl rfl (tw_t hTw) (tw_p58 hTw) ?_
        refine zs_iload_n hΓ dX5_reads_49 (pc' := 50) rfl rfl rfl ?_
        refine zs_iald hΓ dX5_reads_50 (pc' := 51) rfl (tw_a58 hTw) (by omega) (by omega) ?_
        exact zs_iret hΓ dX5_reads_51 rfl (by omega) (by omega) (⟨_, rfl, (by rw [if_pos c_16, if_neg (by omega), if_pos (by omega)]), rfl⟩)
      · refine zs_aload_n hΓ dX5_reads_36 (pc' := 37) rfl rfl rfl ?_
        refine zs_getrE hΓ dX5_reads_37 (pc' := 40) rfl fX5_119 (i9 := 57) rfl rfl (tw_t hTw) (tw_p57 hTw) ?_
        refine zs_iload_n hΓ dX5_reads_40 (pc' := 41) rfl rfl rfl ?_
        refine zs_iald hΓ dX5_reads_41 (pc' := 42) rfl (tw_a57 hTw) (by omega) (by omega) ?_
        refine zs_goto hΓ dX5_reads_42 (tgt := 51) (by decide) ?_
        exact zs_iret hΓ dX5_reads_51 rfl (by omega) (by omega) (⟨_, rfl, (by rw [if_pos c_16, if_pos c_33]), rfl⟩)
    · try have c_25 := iB_eq c_25
      refine zs_iconst hΓ dX5_reads_28 (pc' := 29) rfl ⟨by decide, by decide⟩ ?_
      refine zs_goto hΓ dX5_reads_29 (tgt := 51) (by decide) ?_
      exact zs_iret hΓ dX5_reads_51 rfl (by omega) (by omega) (⟨_, rfl, (by rw [if_pos c_16, if_neg (by omega), if_neg (by omega)]), rfl⟩)
theorem con_X5_isWish (l : Launch) {h : zH} (hTw : TwT h) (k : Int) (hn : 0 ≤ gI h (1, 5) 12 ∧ gI h (1, 5) 12 ≤ 24) : Con l mX5_isWish 2 0 0 [zR (some (1, 0)), zI k] h (rI fun x h' => x = iB ((0 ≤ k ∧ k ≤ gI h (1, 5) 12 - 1) ∧ gI h (1, 5) (13 + 6 * k + 5) = 1) ∧ h' = h) zNo := by
  refine Con.ofS (by decide +kernel) (Nat.le_of_ble_eq_true rfl) fun Γ hΓ hno hwf hav => ?_
  have hΓ : Ctx Γ l cX5_isWish RX5 "isWish" 2 (Option.some Jvm.ClassFile.FieldType.boolean) _ _ 2 _ _ := hΓ
  show SS Γ 0 [some (zR _), some (zI _)] [] _ 0 0
  refine zs_iload_n hΓ dX5_isWish_0 (pc' := 1) rfl rfl rfl ?_
  refine zs_iconst hΓ dX5_isWish_1 (pc' := 2) rfl ⟨by decide, by decide⟩ ?_
  refine zs_aload_n hΓ dX5_isWish_2 (pc' := 3) rfl rfl rfl ?_
  refine zs_getrE hΓ dX5_isWish_3 (pc' := 6) rfl fX5_30 (i9 := 5) rfl rfl (tw_t hTw) (tw_p5 hTw) ?_
  refine zs_bipush hΓ dX5_isWish_6 (pc' := 8) rfl ⟨by decide, by decide⟩ ?_
  refine zs_iald hΓ dX5_isWish_8 (pc' := 9) rfl (tw_a5 hTw) (by omega) (by omega) ?_
  refine zs_iconst hΓ dX5_isWish_9 (pc' := 10) rfl ⟨by decide, by decide⟩ ?_
  refine zs_isub hΓ dX5_isWish_10 (pc' := 11) rfl (by unfold inI; omega) ?_
  refine zs_callSIP hΓ dX5_isWish_11 (pc' := 14) rfl kX5_132 (con_X5_isIn l _ _ _) rfl rfl (Nat.le_of_ble_eq_true rfl) (by omega) (by decide) (by omega) (by omega) ?_ (fun _ _ q _ => False.elim q)
  refine zs_ifeq hΓ dX5_isWish_14 (tgt := 39) (by decide) (pc' := 17) rfl (fun c_14 => ?_) (fun c_14 => ?_)
  · try have c_14 := iB_eq c_14
    refine zs_iconst hΓ dX5_isWish_39 (pc' := 40) rfl ⟨by decide, by decide⟩ ?_
    exact zs_zret hΓ dX5_isWish_40 rfl (by first | omega | exact iB_01 _) (by omega) (by omega) (by first | exact ⟨_, rfl, rfl, rfl⟩ | exact ⟨_, rfl, iB_t (by omega), rfl⟩ | exact ⟨_, rfl, iB_f (by omega), rfl⟩)
  · try have c_14 := iB_ne c_14
    refine zs_aload_n hΓ dX5_isWish_17 (pc' := 18) rfl rfl rfl ?_
    refine zs_getrE hΓ dX5_isWish_18 (pc' := 21) rfl fX5_30 (i9 := 5) rfl rfl (tw_t hTw) (tw_p5 hTw) ?_
    refine zs_bipush hΓ dX5_isWish_21 (pc' := 23) rfl ⟨by decide, by decide⟩ ?_
    refine zs_bipush hΓ dX5_isWish_23 (pc' := 25) rfl ⟨by decide, by decide⟩ ?_
    refine zs_iload_n hΓ dX5_isWish_25 (pc' := 26) rfl rfl rfl ?_
    refine zs_imul hΓ dX5_isWish_26 (pc' := 27) rfl (by unfold inI; omega) ?_
    refine zs_iadd hΓ dX5_isWish_27 (pc' := 28) rfl (by unfold inI; omega) ?_
    refine zs_iconst hΓ dX5_isWish_28 (pc' := 29) rfl ⟨by decide, by decide⟩ ?_
    refine zs_iadd hΓ dX5_isWish_29 (pc' := 30) rfl (by unfold inI; omega) ?_
    refine zs_iald hΓ dX5_isWish_30 (pc' := 31) rfl (tw_a5 hTw) (by omega) (by omega) ?_
    refine zs_iconst hΓ dX5_isWish_31 (pc' := 32) rfl ⟨by decide, by decide⟩ ?_
    refine zs_icmpne hΓ dX5_isWish_32 (tgt := 39) (by decide) (pc' := 35) rfl (fun c_32 => ?_) (fun c_32 => ?_)
    · refine zs_iconst hΓ dX5_isWish_39 (pc' := 40) rfl ⟨by decide, by decide⟩ ?_
      exact zs_zret hΓ dX5_isWish_40 rfl (by first | omega | exact iB_01 _) (by omega) (by omega) (by first | exact ⟨_, rfl, rfl, rfl⟩ | exact ⟨_, rfl, iB_t (by omega), rfl⟩ | exact ⟨_, rfl, iB_f (by omega), rfl⟩)
    · refine zs_iconst hΓ dX5_isWish_35 (pc' := 36) rfl ⟨by decide, by decide⟩ ?_
      refine zs_goto hΓ dX5_isWish_36 (tgt := 40) (by decide) ?_
      exact zs_zret hΓ dX5_isWish_40 rfl (by first | omega | exact iB_01 _) (by omega) (by omega) (by first | exact ⟨_, rfl, rfl, rfl⟩ | exact ⟨_, rfl, iB_t (by omega), rfl⟩ | exact ⟨_, rfl, iB_f (by omega), rfl⟩)
theorem con_X5_drop (l : Launch) {h h1 : zH} (e1 : h1 = setI h (1, 0) 0 0) (hT1 : TwT h1) (k : Int) (hn : 0 ≤ gI h1 (1, 5) 12 ∧ gI h1 (1, 5) 12 ≤ 24) : Con l mX5_drop 3 0 0 [zR (some (1, 0)), zI k] h (rI fun x h' => (((0 ≤ k ∧ k ≤ gI h1 (1, 5) 12 - 1) ∧ gI h1 (1, 5) (13 + 6 * k + 5) = 1) → x = 1 ∧ h' = setI h1 (1, 5) (13 + 6 * k + 5) 0) ∧ (¬ ((0 ≤ k ∧ k ≤ gI h1 (1, 5) 12 - 1) ∧ gI h1 (1, 5) (13 + 6 * k + 5) = 1) → x = 0 ∧ h' = h1)) zNo := by
  refine Con.ofS (by decide +kernel) (Nat.le_of_ble_eq_true rfl) fun Γ hΓ hno hwf hav => ?_
  have hΓ : Ctx Γ l cX5_drop RX5 "drop" 2 (Option.some Jvm.ClassFile.FieldType.boolean) _ _ 3 _ _ := hΓ
  show SS Γ 0 [some (zR _), some (zI _)] [] _ 0 0
  have hTw := hT1.thr e1
  refine zs_aload_n hΓ dX5_drop_0 (pc' := 1) rfl rfl rfl ?_
  refine zs_iconst hΓ dX5_drop_1 (pc' := 2) rfl ⟨by decide, by decide⟩ ?_
  refine zs_puti hΓ dX5_drop_2 (pc' := 5) rfl fX5_1 (fun q hq => (by cases hq; exact Or.inl rfl)) (i9 := 0) rfl trivial (tw_t hTw) (by decide) ?_
  rw [← e1]; have hTw := hT1
  refine zs_aload_n hΓ dX5_drop_5 (pc' := 6) rfl rfl rfl ?_
  refine zs_iload_n hΓ dX5_drop_6 (pc' := 7) rfl rfl rfl ?_
  refine zs_callVIP hΓ dX5_drop_7 (pc' := 10) rfl kX5_344 (con_X5_isWish l hTw k hn) (tw_t hTw) rfl rfl rfl (Nat.le_of_ble_eq_true rfl) (by omega) (by decide) (by omega) (by omega) ?_ (fun _ _ q _ => False.elim q)
  refine zs_ifne hΓ dX5_drop_10 (tgt := 15) (by decide) (pc' := 13) rfl (fun c_10 => ?_) (fun c_10 => ?_)
  · try have c_10 := iB_ne c_10
    refine zs_aload_n hΓ dX5_drop_15 (pc' := 16) rfl rfl rfl ?_
    refine zs_getrE hΓ dX5_drop_16 (pc' := 19) rfl fX5_30 (i9 := 5) rfl rfl (tw_t hTw) (tw_p5 hTw) ?_
    refine zs_bipush hΓ dX5_drop_19 (pc' := 21) rfl ⟨by decide, by decide⟩ ?_
    refine zs_bipush hΓ dX5_drop_21 (pc' := 23) rfl ⟨by decide, by decide⟩ ?_
    refine zs_iload_n hΓ dX5_drop_23 (pc' := 24) rfl rfl rfl ?_
    refine zs_imul hΓ dX5_drop_24 (pc' := 25) rfl (by unfold inI; omega) ?_
    refine zs_iadd hΓ dX5_drop_25 (pc' := 26) rfl (by unfold inI; omega) ?_
    refine zs_iconst hΓ dX5_drop_26 (pc' := 27) rfl ⟨by decide, by decide⟩ ?_
    refine zs_iadd hΓ dX5_drop_27 (pc' := 28) rfl (by unfold inI; omega) ?_
    refine zs_iconst hΓ dX5_drop_28 (pc' := 29) rfl ⟨by decide, by decide⟩ ?_
    refine zs_iast hΓ dX5_drop_29 (pc' := 30) rfl (tw_a5 hTw) (by decide) (by omega) (by omega) ?_
    refine zs_iconst hΓ dX5_drop_30 (pc' := 31) rfl ⟨by decide, by decide⟩ ?_
    exact zs_zret hΓ dX5_drop_31 rfl (by first | omega | exact iB_01 _) (by omega) (by omega) (⟨_, rfl, fun _ => ⟨rfl, rfl⟩, fun z => absurd c_10 z⟩)
  · try have c_10 := iB_eq c_10
    refine zs_iconst hΓ dX5_drop_13 (pc' := 14) rfl ⟨by decide, by decide⟩ ?_
    exact zs_zret hΓ dX5_drop_14 rfl (by first | omega | exact iB_01 _) (by omega) (by omega) (⟨_, rfl, fun z => absurd z c_10, fun _ => ⟨rfl, rfl⟩⟩)
theorem con_X5_walker (l : Launch) {h h1 : zH} (e1 : h1 = setI h (1, 0) 0 0) (hT1 : TwT h1) (k w : Int) (hn : 0 ≤ gI h1 (1, 5) 157 ∧ gI h1 (1, 5) 157 ≤ 60) : Con l mX5_walker 2 0 0 [zR (some (1, 0)), zI k, zI w] h (rI fun x h' => x = (if (0 ≤ k ∧ k ≤ gI h1 (1, 5) 157 - 1) ∧ 0 ≤ w ∧ w ≤ 2 then gI h1 (1, 5) (158 + 6 * k + w) else -1) ∧ h' = h1) zNo := by
  refine Con.ofS (by decide +kernel) (Nat.le_of_ble_eq_true rfl) fun Γ hΓ hno hwf hav => ?_
  have hΓ : Ctx Γ l cX5_walker RX5 "walker" 3 (Option.some Jvm.ClassFile.FieldType.int) _ _ 2 _ _ := hΓ
  show SS Γ 0 [some (zR _), some (zI _), some (zI _)] [] _ 0 0
  have hTw := hT1.thr e1
  refine zs_aload_n hΓ dX5_walker_0 (pc' := 1) rfl rfl rfl ?_
  refine zs_iconst hΓ dX5_walker_1 (pc' := 2) rfl ⟨by decide, by decide⟩ ?_
  refine zs_puti hΓ dX5_walker_2 (pc' := 5) rfl fX5_1 (fun q hq => (by cases hq; exact Or.inl rfl)) (i9 := 0) rfl trivial (tw_t hTw) (by decide) ?_
  rw [← e1]; have hTw := hT1
  refine zs_iload_n hΓ dX5_walker_5 (pc' := 6) rfl rfl rfl ?_
  refine zs_iconst hΓ dX5_walker_6 (pc' := 7) rfl ⟨by decide, by decide⟩ ?_
  refine zs_aload_n hΓ dX5_walker_7 (pc' := 8) rfl rfl rfl ?_
  refine zs_getrE hΓ dX5_walker_8 (pc' := 11) rfl fX5_30 (i9 := 5) rfl rfl (tw_t hTw) (tw_p5 hTw) ?_
  refine zs_sipush hΓ dX5_walker_11 (pc' := 14) rfl ⟨by decide, by decide⟩ ?_
  refine zs_iald hΓ dX5_walker_14 (pc' := 15) rfl (tw_a5 hTw) (by omega) (by omega) ?_
  refine zs_iconst hΓ dX5_walker_15 (pc' := 16) rfl ⟨by decide, by decide⟩ ?_
  refine zs_isub hΓ dX5_walker_16 (pc' := 17) rfl (by unfold inI; omega) ?_
  refine zs_callSIP hΓ dX5_walker_17 (pc' := 20) rfl kX5_132 (con_X5_isIn l _ _ _) rfl rfl (Nat.le_of_ble_eq_true rfl) (by omega) (by decide) (by omega) (by omega) ?_ (fun _ _ q _ => False.elim q)
  refine zs_ifeq hΓ dX5_walker_20 (tgt := 50) (by decide) (pc' := 23) rfl (fun c_20 => ?_) (fun c_20 => ?_)
  · try have c_20 := iB_eq c_20
    refine zs_iconst hΓ dX5_walker_50 (pc' := 51) rfl ⟨by decide, by decide⟩ ?_
    exact zs_iret hΓ dX5_walker_51 rfl (by omega) (by omega) (⟨_, rfl, (by rw [if_neg (by omega)]), rfl⟩)
  · try have c_20 := iB_ne c_20
    refine zs_iload_n hΓ dX5_walker_23 (pc' := 24) rfl rfl rfl ?_
    refine zs_iconst hΓ dX5_walker_24 (pc' := 25) rfl ⟨by decide, by decide⟩ ?_
    refine zs_iconst hΓ dX5_walker_25 (pc' := 26) rfl ⟨by decide, by decide⟩ ?_
    refine zs_callSIP hΓ dX5_walker_26 (pc' := 29) rfl kX5_132 (con_X5_isIn l _ _ _) rfl rfl (Nat.le_of_ble_eq_true rfl) (by omega) (by decide) (by omega) (by omega) ?_ (fun _ _ q _ => False.elim q)
    refine zs_ifeq hΓ dX5_walker_29 (tgt := 50) (by decide) (pc' := 32) rfl (fun c_29 => ?_) (fun c_29 => ?_)
    · try have c_29 := iB_eq c_29
      refine zs_iconst hΓ dX5_walker_50 (pc' := 51) rfl ⟨by decide, by decide⟩ ?_
      exact zs_iret hΓ dX5_walker_51 rfl (by omega) (by omega) (⟨_, rfl, (by rw [if_neg (by omega)]), rfl⟩)
    · try have c_29 := iB_ne c_29
      refine zs_aload_n hΓ dX5_walker_32 (pc' := 33) rfl rfl rfl ?_
      refine zs_getrE hΓ dX5_walker_33 (pc' := 36) rfl fX5_30 (i9 := 5) rfl rfl (tw_t hTw) (tw_p5 hTw) ?_
      refine zs_sipush hΓ dX5_walker_36 (pc' := 39) rfl ⟨by decide, by decide⟩ ?_
      refine zs_bipush hΓ dX5_walker_39 (pc' := 41) rfl ⟨by decide, by decide⟩ ?_
      refine zs_iload_n hΓ dX5_walker_41 (pc' := 42) rfl rfl rfl ?_
      refine zs_imul hΓ dX5_walker_42 (pc' := 43) rfl (by unfold inI; omega) ?_
      refine zs_iadd hΓ dX5_walker_43 (pc' := 44) rfl (by unfold inI; omega) ?_
      refine zs_iload_n hΓ dX5_walker_44 (pc' := 45) rfl rfl rfl ?_
      refine zs_iadd hΓ dX5_walker_45 (pc' := 46) rfl (by unfold inI; omega) ?_
      refine zs_iald hΓ dX5_walker_46 (pc' := 47) rfl (tw_a5 hTw) (by omega) (by omega) ?_
      refine zs_goto hΓ dX5_walker_47 (tgt := 51) (by decide) ?_
      exact zs_iret hΓ dX5_walker_51 rfl (by omega) (by omega) (⟨_, rfl, (by rw [if_pos (by omega)]), rfl⟩)
