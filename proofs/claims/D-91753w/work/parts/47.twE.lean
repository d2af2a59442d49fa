/-! THE TWIN, E: rain, tape, wishes, images, counts, notes, a new park -/
set_option maxRecDepth 100000
theorem con_X5_rain (l : Launch) {h h1 : zH} (e1 : h1 = setI h (1, 0) 0 0) (hT1 : TwT h1) (hw : RW (gI h1 (1, 5))) (hwet : ∀ c, 0 ≤ c → c < 256 → 0 ≤ cel (gI h1 (1, 5)) c 4 ∧ cel (gI h1 (1, 5)) c 4 ≤ 200) (n : Int) : Con l mX5_rain 2 0 0 [zR (some (1, 0)), zI n] h (rI fun x h' => ((1 ≤ n ∧ n ≤ 200) → x = 1 ∧ Same (fun a _ => a = (1, 5)) h1 h' ∧ gI h' (1, 5) = sRain (gI h1 (1, 5)) n) ∧ (¬ (1 ≤ n ∧ n ≤ 200) → x = 0 ∧ h' = h1)) zNo := by
  refine Con.ofS (by decide +kernel) (Nat.le_of_ble_eq_true rfl) fun Γ hΓ hno hwf hav => ?_
  have hΓ : Ctx Γ l cX5_rain RX5 "rain" 3 (Option.some Jvm.ClassFile.FieldType.boolean) _ _ 2 _ _ := hΓ
  show SS Γ 0 [some (zR _), some (zI _), none] [] _ 0 0
  have hTw := hT1.thr e1
  have hc := hw.c
  generalize hf : (fun c w => if w = 4 ∧ cel (gI h1 (1, 5)) c 0 < 3 then (if 200 < cel (gI h1 (1, 5)) c 4 + n then 200 else cel (gI h1 (1, 5)) c 4 + n) else cel (gI h1 (1, 5)) c w) = f
  have hfe : ∀ c w, f c w = if w = 4 ∧ cel (gI h1 (1, 5)) c 0 < 3 then (if 200 < cel (gI h1 (1, 5)) c 4 + n then 200 else cel (gI h1 (1, 5)) c 4 + n) else cel (gI h1 (1, 5)) c w := fun c w => by rw [← hf]
  have lp9 : (1 ≤ n ∧ n ≤ 200) → ∀ (n9 : Nat) (i : Int) (h' : zH), (0 ≤ i ∧ i ≤ gI h1 (1, 5) 0 * gI h1 (1, 5) 1) → Same (fun a _ => a = (1, 5)) h1 h' → gI h' (1, 5) = mapC i f (gI h1 (1, 5)) → gI h1 (1, 5) 0 * gI h1 (1, 5) 1 - i < n9 → SS Γ 20 [some (zR (some (1, 0))), some (zI n), some (zI i)] [] h' 0 0 := by
    intro hn n9
    induction n9 with
    | zero => intro i h' h8 h2 h3 hm9; exact absurd hm9 (by omega)
    | succ n9 ih =>
      intro i h' h8 h2 h3 hm9
      have hTw := hT1.same h2
      have r0 : gI h' (1, 5) 0 = gI h1 (1, 5) 0 := by rw [h3]; exact mapC_lo (by decide)
      have r1 : gI h' (1, 5) 1 = gI h1 (1, 5) 1 := by rw [h3]; exact mapC_lo (by decide)
      have hw' : RW (gI h' (1, 5)) := by unfold RW; rw [r0, r1]; exact hw
      have hcel : ∀ w, 0 ≤ w → w < 7 → cel (gI h' (1, 5)) i w = cel (gI h1 (1, 5)) i w := fun w w1 w2 => by rw [h3, mapC_cel h8.1 ⟨w1, w2⟩, if_neg (by omega)]
      have k0 := hcel 0 (by decide) (by decide)
      have k4 := hcel 4 (by decide) (by decide)
      have k4' : cel (mapC i f (gI h1 (1, 5))) i 4 = cel (gI h1 (1, 5)) i 4 := by rw [← h3]; exact k4
      refine zs_iload_n hΓ dX5_rain_20 (pc' := 21) rfl rfl rfl ?_
      refine zs_aload_n hΓ dX5_rain_21 (pc' := 22) rfl rfl rfl ?_
      refine zs_callVIP hΓ dX5_rain_22 (pc' := 25) rfl kX5_128 (con_X5_cells l hTw hw') (tw_t hTw) rfl rfl rfl (Nat.le_of_ble_eq_true rfl) (by omega) (by decide) (by omega) (by omega) ?_ (fun _ _ q _ => False.elim q)
      rw [r0, r1]
      refine zs_icmpge hΓ dX5_rain_25 (tgt := 78) (by decide) (pc' := 28) rfl (fun c_25 => ?_) (fun c_25 => ?_)
      · refine zs_iconst hΓ dX5_rain_78 (pc' := 79) rfl ⟨by decide, by decide⟩ ?_
        exact zs_zret hΓ dX5_rain_79 rfl (by first | omega | exact iB_01 _) (by omega) (by omega) (⟨_, rfl, fun _ => ⟨rfl, h2, by rw [h3, show i = gI h1 (1, 5) 0 * gI h1 (1, 5) 1 by omega]; unfold sRain; rw [hf]⟩, fun z => absurd hn z⟩)
      · have k9 := hwet i (by omega) (by omega)
        refine zs_aload_n hΓ dX5_rain_28 (pc' := 29) rfl rfl rfl ?_
        refine zs_iload_n hΓ dX5_rain_29 (pc' := 30) rfl rfl rfl ?_
        refine zs_iconst hΓ dX5_rain_30 (pc' := 31) rfl ⟨by decide, by decide⟩ ?_
        refine zs_callVIP hΓ dX5_rain_31 (pc' := 34) rfl kX5_136 (con_X5_of l hTw i 0 (by omega) (by decide)) (tw_t hTw) rfl rfl rfl (Nat.le_of_ble_eq_true rfl) (by omega) (by decide) (by omega) (by omega) ?_ (fun _ _ q _ => False.elim q)
        refine zs_iconst hΓ dX5_rain_34 (pc' := 35) rfl ⟨by decide, by decide⟩ ?_
        refine zs_icmpge hΓ dX5_rain_35 (tgt := 72) (by decide) (pc' := 38) rfl (fun c_35 => ?_) (fun c_35 => ?_)
        · refine zs_iinc hΓ dX5_rain_72 (pc' := 75) rfl (L' := [some (zR _), some (zI _), some (zI _)]) rfl (by unfold inI; omega) (by decide) rfl rfl ?_
          refine zs_goto hΓ dX5_rain_75 (tgt := 20) (by decide) ?_
          exact ih (i + 1) _ (by omega) h2 (by rw [h3]; refine mapC_s h8.1 (fun w w1 w2 => ?_) (fun j hj => rfl); rw [hfe, if_neg (by omega)]; exact (congrFun h3 _).symm.trans (hcel w w1 w2)) (by omega)
        · refine zs_aload_n hΓ dX5_rain_38 (pc' := 39) rfl rfl rfl ?_
          refine zs_iload_n hΓ dX5_rain_39 (pc' := 40) rfl rfl rfl ?_
          refine zs_iconst hΓ dX5_rain_40 (pc' := 41) rfl ⟨by decide, by decide⟩ ?_
          refine zs_aload_n hΓ dX5_rain_41 (pc' := 42) rfl rfl rfl ?_
          refine zs_iload_n hΓ dX5_rain_42 (pc' := 43) rfl rfl rfl ?_
          refine zs_iconst hΓ dX5_rain_43 (pc' := 44) rfl ⟨by decide, by decide⟩ ?_
          refine zs_callVIP hΓ dX5_rain_44 (pc' := 47) rfl kX5_136 (con_X5_of l hTw i 4 (by omega) (by decide)) (tw_t hTw) rfl rfl rfl (Nat.le_of_ble_eq_true rfl) (by omega) (by decide) (by omega) (by omega) ?_ (fun _ _ q _ => False.elim q)
          refine zs_iload_n hΓ dX5_rain_47 (pc' := 48) rfl rfl rfl ?_
          refine zs_iadd hΓ dX5_rain_48 (pc' := 49) rfl (by unfold inI; omega) ?_
          refine zs_sipush hΓ dX5_rain_49 (pc' := 52) rfl ⟨by decide, by decide⟩ ?_
          refine zs_icmple hΓ dX5_rain_52 (tgt := 61) (by decide) (pc' := 55) rfl (fun c_52 => ?_) (fun c_52 => ?_)
          · refine zs_aload_n hΓ dX5_rain_61 (pc' := 62) rfl rfl rfl ?_
            refine zs_iload_n hΓ dX5_rain_62 (pc' := 63) rfl rfl rfl ?_
            refine zs_iconst hΓ dX5_rain_63 (pc' := 64) rfl ⟨by decide, by decide⟩ ?_
            refine zs_callVIP hΓ dX5_rain_64 (pc' := 67) rfl kX5_136 (con_X5_of l hTw i 4 (by omega) (by decide)) (tw_t hTw) rfl rfl rfl (Nat.le_of_ble_eq_true rfl) (by omega) (by decide) (by omega) (by omega) ?_ (fun _ _ q _ => False.elim q)
            refine zs_iload_n hΓ dX5_rain_67 (pc' := 68) rfl rfl rfl ?_
            refine zs_iadd hΓ dX5_rain_68 (pc' := 69) rfl (by unfold inI; omega) ?_
            refine zs_callVVE hΓ dX5_rain_69 (pc' := 72) rfl kX5_151 (con_X5_set l hTw i 4 _ (by omega) (by decide)) (tw_t hTw) rfl rfl rfl (Nat.le_of_ble_eq_true rfl) (by omega) (by decide) (by omega) (by omega) ?_ (fun _ _ q _ => False.elim q)
            refine zs_iinc hΓ dX5_rain_72 (pc' := 75) rfl (L' := [some (zR _), some (zI _), some (zI _)]) rfl (by unfold inI; omega) (by decide) rfl rfl ?_
            refine zs_goto hΓ dX5_rain_75 (tgt := 20) (by decide) ?_
            exact ih (i + 1) _ (by omega) (h2.set rfl) (by rw [gI_up, h3]; refine mapC_s h8.1 (fun w w1 w2 => ?_) (fun j hj => upR_n _ _ (by omega)); rw [hfe]; by_cases c : w = 4; rw [c, upR_s, if_pos (by omega)]; omega; rw [upR_n _ _ (by omega), if_neg (by omega)]; exact (congrFun h3 _).symm.trans (hcel w w1 w2)) (by omega)
          · refine zs_sipush hΓ dX5_rain_55 (pc' := 58) rfl ⟨by decide, by decide⟩ ?_
            refine zs_goto hΓ dX5_rain_58 (tgt := 69) (by decide) ?_
            refine zs_callVVE hΓ dX5_rain_69 (pc' := 72) rfl kX5_151 (con_X5_set l hTw i 4 _ (by omega) (by decide)) (tw_t hTw) rfl rfl rfl (Nat.le_of_ble_eq_true rfl) (by omega) (by decide) (by omega) (by omega) ?_ (fun _ _ q _ => False.elim q)
            refine zs_iinc hΓ dX5_rain_72 (pc' := 75) rfl (L' := [some (zR _), some (zI _), some (zI _)]) rfl (by unfold inI; omega) (by decide) rfl rfl ?_
            refine zs_goto hΓ dX5_rain_75 (tgt := 20) (by decide) ?_
            exact ih (i + 1) _ (by omega) (h2.set rfl) (by rw [gI_up, h3]; refine mapC_s h8.1 (fun w w1 w2 => ?_) (fun j hj => upR_n _ _ (by omega)); rw [hfe]; by_cases c : w = 4; rw [c, upR_s, if_pos (by omega)]; omega; rw [upR_n _ _ (by omega), if_neg (by omega)]; exact (congrFun h3 _).symm.trans (hcel w w1 w2)) (by omega)
  refine zs_aload_n hΓ dX5_rain_0 (pc' := 1) rfl rfl rfl ?_
  refine zs_iconst hΓ dX5_rain_1 (pc' := 2) rfl ⟨by decide, by decide⟩ ?_
  refine zs_puti hΓ dX5_rain_2 (pc' := 5) rfl fX5_1 (fun q hq => (by cases hq; exact Or.inl rfl)) (i9 := 0) rfl trivial (tw_t hTw) (show (0 : Int) ≤ 1 by decide) ?_
  rw [← e1]; have hTw := hT1
  refine zs_iload_n hΓ dX5_rain_5 (pc' := 6) rfl rfl rfl ?_
  refine zs_iconst hΓ dX5_rain_6 (pc' := 7) rfl ⟨by decide, by decide⟩ ?_
  refine zs_sipush hΓ dX5_rain_7 (pc' := 10) rfl ⟨by decide, by decide⟩ ?_
  refine zs_callSIP hΓ dX5_rain_10 (pc' := 13) rfl kX5_132 (con_X5_isIn l _ _ _) rfl rfl (Nat.le_of_ble_eq_true rfl) (by omega) (by decide) (by omega) (by omega) ?_ (fun _ _ q _ => False.elim q)
  refine zs_ifne hΓ dX5_rain_13 (tgt := 18) (by decide) (pc' := 16) rfl (fun c_13 => ?_) (fun c_13 => ?_)
  · try have c_13 := iB_ne c_13
    refine zs_iconst hΓ dX5_rain_18 (pc' := 19) rfl ⟨by decide, by decide⟩ ?_
    refine zs_istore_n hΓ dX5_rain_19 (pc' := 20) rfl (L' := [some (zR _), some (zI _), some (zI _)]) rfl (by decide) rfl rfl ?_
    exact lp9 c_13 257 0 h1 (by omega) (Same.rf _ _) (mapC_0 _ _).symm (by omega)
  · try have c_13 := iB_eq c_13
    refine zs_iconst hΓ dX5_rain_16 (pc' := 17) rfl ⟨by decide, by decide⟩ ?_
    exact zs_zret hΓ dX5_rain_17 rfl (by first | omega | exact iB_01 _) (by omega) (by omega) (⟨_, rfl, fun z => absurd z c_13, fun _ => ⟨rfl, rfl⟩⟩)
theorem con_X5_wish (l : Launch) {h h1 : zH} (e1 : h1 = setI h (1, 0) 0 0) (hT1 : TwT h1) (hn : 0 ≤ gI h1 (1, 5) 2 ∧ gI h1 (1, 5) 2 ≤ 9) (hm : 0 ≤ gI h1 (1, 5) 12 ∧ gI h1 (1, 5) 12 ≤ 24) (a b hb ev fi : Int) : Con l mX5_wish 3 0 0 [zR (some (1, 0)), zI a, zI b, zI hb, zI ev, zI fi] h (rI fun x h' => ((gI h1 (1, 5) 12 ≠ 24 ∧ sIsDoor (gI h1 (1, 5)) a ∧ sIsDoor (gI h1 (1, 5)) b ∧ a ≠ b ∧ (0 ≤ hb ∧ hb ≤ 5) ∧ (1 ≤ ev ∧ ev ≤ 200) ∧ 0 ≤ fi ∧ fi ≤ 60000) → x = gI h1 (1, 5) 12 ∧ Same (fun a _ => a = (1, 5)) h1 h' ∧ gI h' (1, 5) = sWish (gI h1 (1, 5)) a b hb ev fi) ∧ (¬ (gI h1 (1, 5) 12 ≠ 24 ∧ sIsDoor (gI h1 (1, 5)) a ∧ sIsDoor (gI h1 (1, 5)) b ∧ a ≠ b ∧ (0 ≤ hb ∧ hb ≤ 5) ∧ (1 ≤ ev ∧ ev ≤ 200) ∧ 0 ≤ fi ∧ fi ≤ 60000) → x = -1 ∧ h' = h1)) zNo := by
  refine Con.ofS (by decide +kernel) (Nat.le_of_ble_eq_true rfl) fun Γ hΓ hno hwf hav => ?_
  have hΓ : Ctx Γ l cX5_wish RX5 "wish" 7 (Option.some Jvm.ClassFile.FieldType.int) _ _ 3 _ _ := hΓ
  show SS Γ 0 [some (zR _), some (zI _), some (zI _), some (zI _), some (zI _), some (zI _), none] [] _ 0 0
  have hTw := hT1.thr e1
  refine zs_aload_n hΓ dX5_wish_0 (pc' := 1) rfl rfl rfl ?_
  refine zs_iconst hΓ dX5_wish_1 (pc' := 2) rfl ⟨by decide, by decide⟩ ?_
  refine zs_puti hΓ dX5_wish_2 (pc' := 5) rfl fX5_1 (fun q hq => (by cases hq; exact Or.inl rfl)) (i9 := 0) rfl trivial (tw_t hTw) (show (0 : Int) ≤ 1 by decide) ?_
  rw [← e1]; have hTw := hT1
  refine zs_aload_n hΓ dX5_wish_5 (pc' := 6) rfl rfl rfl ?_
  refine zs_getrE hΓ dX5_wish_6 (pc' := 9) rfl fX5_30 (i9 := 5) rfl rfl (tw_t hTw) (tw_p5 hTw) ?_
  refine zs_bipush hΓ dX5_wish_9 (pc' := 11) rfl ⟨by decide, by decide⟩ ?_
  refine zs_iald hΓ dX5_wish_11 (pc' := 12) rfl (tw_a5 hTw) (by omega) (by omega) ?_
  refine zs_bipush hΓ dX5_wish_12 (pc' := 14) rfl ⟨by decide, by decide⟩ ?_
  refine zs_icmpeq hΓ dX5_wish_14 (tgt := 71) (by decide) (pc' := 17) rfl (fun c_14 => ?_) (fun c_14 => ?_)
  · refine zs_iconst hΓ dX5_wish_71 (pc' := 72) rfl ⟨by decide, by decide⟩ ?_
    exact zs_iret hΓ dX5_wish_72 rfl (by omega) (by omega) (⟨_, rfl, fun z => absurd c_14 z.1, fun _ => ⟨rfl, rfl⟩⟩)
  · refine zs_aload_n hΓ dX5_wish_17 (pc' := 18) rfl rfl rfl ?_
    refine zs_iload_n hΓ dX5_wish_18 (pc' := 19) rfl rfl rfl ?_
    refine zs_callVIP hΓ dX5_wish_19 (pc' := 22) rfl kX5_340 (con_X5_isDoor l hTw a hn) (tw_t hTw) rfl rfl rfl (Nat.le_of_ble_eq_true rfl) (by omega) (by decide) (by omega) (by omega) ?_ (fun _ _ q _ => False.elim q)
    refine zs_ifeq hΓ dX5_wish_22 (tgt := 71) (by decide) (pc' := 25) rfl (fun c_22 => ?_) (fun c_22 => ?_)
    · try have c_22 := iB_eq c_22
      refine zs_iconst hΓ dX5_wish_71 (pc' := 72) rfl ⟨by decide, by decide⟩ ?_
      exact zs_iret hΓ dX5_wish_72 rfl (by omega) (by omega) (⟨_, rfl, fun z => absurd z.2.1 c_22, fun _ => ⟨rfl, rfl⟩⟩)
    · try have c_22 := iB_ne c_22
      refine zs_aload_n hΓ dX5_wish_25 (pc' := 26) rfl rfl rfl ?_
      refine zs_iload_n hΓ dX5_wish_26 (pc' := 27) rfl rfl rfl ?_
      refine zs_callVIP hΓ dX5_wish_27 (pc' := 30) rfl kX5_340 (con_X5_isDoor l hTw b hn) (tw_t hTw) rfl rfl rfl (Nat.le_of_ble_eq_true rfl) (by omega) (by decide) (by omega) (by omega) ?_ (fun _ _ q _ => False.elim q)
      refine zs_ifeq hΓ dX5_wish_30 (tgt := 71) (by decide) (pc' := 33) rfl (fun c_30 => ?_) (fun c_30 => ?_)
      · try have c_30 := iB_eq c_30
        refine zs_iconst hΓ dX5_wish_71 (pc' := 72) rfl ⟨by decide, by decide⟩ ?_
        exact zs_iret hΓ dX5_wish_72 rfl (by omega) (by omega) (⟨_, rfl, fun z => absurd z.2.2.1 c_30, fun _ => ⟨rfl, rfl⟩⟩)
      · try have c_30 := iB_ne c_30
        refine zs_iload_n hΓ dX5_wish_33 (pc' := 34) rfl rfl rfl ?_
        refine zs_iload_n hΓ dX5_wish_34 (pc' := 35) rfl rfl rfl ?_
        refine zs_icmpeq hΓ dX5_wish_35 (tgt := 71) (by decide) (pc' := 38) rfl (fun c_35 => ?_) (fun c_35 => ?_)
        · refine zs_iconst hΓ dX5_wish_71 (pc' := 72) rfl ⟨by decide, by decide⟩ ?_
          exact zs_iret hΓ dX5_wish_72 rfl (by omega) (by omega) (⟨_, rfl, fun z => absurd c_35 z.2.2.2.1, fun _ => ⟨rfl, rfl⟩⟩)
        · refine zs_iload_n hΓ dX5_wish_38 (pc' := 39) rfl rfl rfl ?_
          refine zs_iconst hΓ dX5_wish_39 (pc' := 40) rfl ⟨by decide, by decide⟩ ?_
          refine zs_iconst hΓ dX5_wish_40 (pc' := 41) rfl ⟨by decide, by decide⟩ ?_
          refine zs_callSIP hΓ dX5_wish_41 (pc' := 44) rfl kX5_132 (con_X5_isIn l _ _ _) rfl rfl (Nat.le_of_ble_eq_true rfl) (by omega) (by decide) (by omega) (by omega) ?_ (fun _ _ q _ => False.elim q)
          refine zs_ifeq hΓ dX5_wish_44 (tgt := 71) (by decide) (pc' := 47) rfl (fun c_44 => ?_) (fun c_44 => ?_)
          · try have c_44 := iB_eq c_44
            refine zs_iconst hΓ dX5_wish_71 (pc' := 72) rfl ⟨by decide, by decide⟩ ?_
            exact zs_iret hΓ dX5_wish_72 rfl (by omega) (by omega) (⟨_, rfl, fun z => absurd z.2.2.2.2.1 c_44, fun _ => ⟨rfl, rfl⟩⟩)
          · try have c_44 := iB_ne c_44
            refine zs_iload hΓ dX5_wish_47 (pc' := 49) rfl rfl ?_
            refine zs_iconst hΓ dX5_wish_49 (pc' := 50) rfl ⟨by decide, by decide⟩ ?_
            refine zs_sipush hΓ dX5_wish_50 (pc' := 53) rfl ⟨by decide, by decide⟩ ?_
            refine zs_callSIP hΓ dX5_wish_53 (pc' := 56) rfl kX5_132 (con_X5_isIn l _ _ _) rfl rfl (Nat.le_of_ble_eq_true rfl) (by omega) (by decide) (by omega) (by omega) ?_ (fun _ _ q _ => False.elim q)
            refine zs_ifeq hΓ dX5_wish_56 (tgt := 71) (by decide) (pc' := 59) rfl (fun c_56 => ?_) (fun c_56 => ?_)
            · try have c_56 := iB_eq c_56
              refine zs_iconst hΓ dX5_wish_71 (pc' := 72) rfl ⟨by decide, by decide⟩ ?_
              exact zs_iret hΓ dX5_wish_72 rfl (by omega) (by omega) (⟨_, rfl, fun z => absurd z.2.2.2.2.2.1 c_56, fun _ => ⟨rfl, rfl⟩⟩)
            · try have c_56 := iB_ne c_56
              refine zs_iload hΓ dX5_wish_59 (pc' := 61) rfl rfl ?_
              refine zs_iconst hΓ dX5_wish_61 (pc' := 62) rfl ⟨by decide, by decide⟩ ?_
              refine zs_ldcw hΓ dX5_wish_62 (pc' := 65) rfl (v := 60000) q1997 ⟨by decide, by decide⟩ ?_
              refine zs_callSIP hΓ dX5_wish_65 (pc' := 68) rfl kX5_132 (con_X5_isIn l _ _ _) rfl rfl (Nat.le_of_ble_eq_true rfl) (by omega) (by decide) (by omega) (by omega) ?_ (fun _ _ q _ => False.elim q)
              refine zs_ifne hΓ dX5_wish_68 (tgt := 73) (by decide) (pc' := 71) rfl (fun c_68 => ?_) (fun c_68 => ?_)
              · try have c_68 := iB_ne c_68
                generalize hA : gI h1 (1, 5) 12 = A at *
                refine zs_bipush hΓ dX5_wish_73 (pc' := 75) rfl ⟨by decide, by decide⟩ ?_
                refine zs_bipush hΓ dX5_wish_75 (pc' := 77) rfl ⟨by decide, by decide⟩ ?_
                refine zs_aload_n hΓ dX5_wish_77 (pc' := 78) rfl rfl rfl ?_
                refine zs_getrE hΓ dX5_wish_78 (pc' := 81) rfl fX5_30 (i9 := 5) rfl rfl (tw_t hTw) (tw_p5 hTw) ?_
                refine zs_bipush hΓ dX5_wish_81 (pc' := 83) rfl ⟨by decide, by decide⟩ ?_
                refine zs_iald hΓ dX5_wish_83 (pc' := 84) rfl (tw_a5 hTw) (by omega) (by omega) ?_
                refine zs_eqI hA ?_
                refine zs_imul hΓ dX5_wish_84 (pc' := 85) rfl (by unfold inI; omega) ?_
                refine zs_iadd hΓ dX5_wish_85 (pc' := 86) rfl (by unfold inI; omega) ?_
                refine zs_istore hΓ dX5_wish_86 (pc' := 88) rfl (L' := [some (zR _), some (zI _), some (zI _), some (zI _), some (zI _), some (zI _), some (zI _)]) (by decide) rfl rfl ?_
                refine zs_aload_n hΓ dX5_wish_88 (pc' := 89) rfl rfl rfl ?_
                refine zs_getrE hΓ dX5_wish_89 (pc' := 92) rfl fX5_30 (i9 := 5) rfl rfl (tw_t hTw) (tw_p5 hTw) ?_
                refine zs_iload hΓ dX5_wish_92 (pc' := 94) rfl rfl ?_
                refine zs_iload_n hΓ dX5_wish_94 (pc' := 95) rfl rfl rfl ?_
                refine zs_iast hΓ dX5_wish_95 (pc' := 96) rfl (tw_a5 hTw) (show (0 : Int) ≤ 1 by decide) (by omega) (by omega) ?_
                refine zs_aload_n hΓ dX5_wish_96 (pc' := 97) rfl rfl rfl ?_
                refine zs_getrE hΓ dX5_wish_97 (pc' := 100) rfl fX5_30 (i9 := 5) rfl rfl (tw_t hTw) (tw_p5 hTw) ?_
                refine zs_iload hΓ dX5_wish_100 (pc' := 102) rfl rfl ?_
                refine zs_iconst hΓ dX5_wish_102 (pc' := 103) rfl ⟨by decide, by decide⟩ ?_
                refine zs_iadd hΓ dX5_wish_103 (pc' := 104) rfl (by unfold inI; omega) ?_
                refine zs_iload_n hΓ dX5_wish_104 (pc' := 105) rfl rfl rfl ?_
                refine zs_iast hΓ dX5_wish_105 (pc' := 106) rfl (tw_a5 hTw) (show (0 : Int) ≤ 1 by decide) (by omega) (by omega) ?_
                refine zs_aload_n hΓ dX5_wish_106 (pc' := 107) rfl rfl rfl ?_
                refine zs_getrE hΓ dX5_wish_107 (pc' := 110) rfl fX5_30 (i9 := 5) rfl rfl (tw_t hTw) (tw_p5 hTw) ?_
                refine zs_iload hΓ dX5_wish_110 (pc' := 112) rfl rfl ?_
                refine zs_iconst hΓ dX5_wish_112 (pc' := 113) rfl ⟨by decide, by decide⟩ ?_
                refine zs_iadd hΓ dX5_wish_113 (pc' := 114) rfl (by unfold inI; omega) ?_
                refine zs_iload_n hΓ dX5_wish_114 (pc' := 115) rfl rfl rfl ?_
                refine zs_iast hΓ dX5_wish_115 (pc' := 116) rfl (tw_a5 hTw) (show (0 : Int) ≤ 1 by decide) (by omega) (by omega) ?_
                refine zs_aload_n hΓ dX5_wish_116 (pc' := 117) rfl rfl rfl ?_
                refine zs_getrE hΓ dX5_wish_117 (pc' := 120) rfl fX5_30 (i9 := 5) rfl rfl (tw_t hTw) (tw_p5 hTw) ?_
                refine zs_iload hΓ dX5_wish_120 (pc' := 122) rfl rfl ?_
                refine zs_iconst hΓ dX5_wish_122 (pc' := 123) rfl ⟨by decide, by decide⟩ ?_
                refine zs_iadd hΓ dX5_wish_123 (pc' := 124) rfl (by unfold inI; omega) ?_
                refine zs_iload hΓ dX5_wish_124 (pc' := 126) rfl rfl ?_
                refine zs_iast hΓ dX5_wish_126 (pc' := 127) rfl (tw_a5 hTw) (show (0 : Int) ≤ 1 by decide) (by omega) (by omega) ?_
                refine zs_aload_n hΓ dX5_wish_127 (pc' := 128) rfl rfl rfl ?_
                refine zs_getrE hΓ dX5_wish_128 (pc' := 131) rfl fX5_30 (i9 := 5) rfl rfl (tw_t hTw) (tw_p5 hTw) ?_
                refine zs_iload hΓ dX5_wish_131 (pc' := 133) rfl rfl ?_
                refine zs_iconst hΓ dX5_wish_133 (pc' := 134) rfl ⟨by decide, by decide⟩ ?_
                refine zs_iadd hΓ dX5_wish_134 (pc' := 135) rfl (by unfold inI; omega) ?_
                refine zs_iload hΓ dX5_wish_135 (pc' := 137) rfl rfl ?_
                refine zs_iast hΓ dX5_wish_137 (pc' := 138) rfl (tw_a5 hTw) (show (0 : Int) ≤ 1 by decide) (by omega) (by omega) ?_
                refine zs_aload_n hΓ dX5_wish_138 (pc' := 139) rfl rfl rfl ?_
                refine zs_getrE hΓ dX5_wish_139 (pc' := 142) rfl fX5_30 (i9 := 5) rfl rfl (tw_t hTw) (tw_p5 hTw) ?_
                refine zs_iload hΓ dX5_wish_142 (pc' := 144) rfl rfl ?_
                refine zs_iconst hΓ dX5_wish_144 (pc' := 145) rfl ⟨by decide, by decide⟩ ?_
                refine zs_iadd hΓ dX5_wish_145 (pc' := 146) rfl (by unfold inI; omega) ?_
                refine zs_iconst hΓ dX5_wish_146 (pc' := 147) rfl ⟨by decide, by decide⟩ ?_
                refine zs_iast hΓ dX5_wish_147 (pc' := 148) rfl (tw_a5 hTw) (show (0 : Int) ≤ 1 by decide) (by omega) (by omega) ?_
                refine zs_aload_n hΓ dX5_wish_148 (pc' := 149) rfl rfl rfl ?_
                refine zs_getrE hΓ dX5_wish_149 (pc' := 152) rfl fX5_30 (i9 := 5) rfl rfl (tw_t hTw) (tw_p5 hTw) ?_
                refine zs_bipush hΓ dX5_wish_152 (pc' := 154) rfl ⟨by decide, by decide⟩ ?_
                refine zs_dup2 hΓ dX5_wish_154 (pc' := 155) rfl  ?_
                refine zs_iald hΓ dX5_wish_155 (pc' := 156) rfl (tw_a5 hTw) (by omega) (by omega) ?_
                refine zs_eqI (y := A) (by simp only [gI_setI]; rw [if_neg (by omega), if_neg (by omega), if_neg (by omega), if_neg (by omega), if_neg (by omega), if_neg (by omega)]; exact hA) ?_
                refine zs_iconst hΓ dX5_wish_156 (pc' := 157) rfl ⟨by decide, by decide⟩ ?_
                refine zs_iadd hΓ dX5_wish_157 (pc' := 158) rfl (by unfold inI; omega) ?_
                refine zs_iast hΓ dX5_wish_158 (pc' := 159) rfl (tw_a5 hTw) (show (0 : Int) ≤ 1 by decide) (by omega) (by omega) ?_
                refine zs_aload_n hΓ dX5_wish_159 (pc' := 160) rfl rfl rfl ?_
                refine zs_getrE hΓ dX5_wish_160 (pc' := 163) rfl fX5_30 (i9 := 5) rfl rfl (tw_t hTw) (tw_p5 hTw) ?_
                refine zs_bipush hΓ dX5_wish_163 (pc' := 165) rfl ⟨by decide, by decide⟩ ?_
                refine zs_iald hΓ dX5_wish_165 (pc' := 166) rfl (tw_a5 hTw) (by omega) (by omega) ?_
                refine zs_eqI (y := A + 1) (by rw [gI_setI, if_pos ⟨rfl, rfl⟩]) ?_
                refine zs_iconst hΓ dX5_wish_166 (pc' := 167) rfl ⟨by decide, by decide⟩ ?_
                refine zs_isub hΓ dX5_wish_167 (pc' := 168) rfl (by unfold inI; omega) ?_
                exact zs_iret hΓ dX5_wish_168 rfl (by omega) (by omega) (⟨_, rfl, fun _ => ⟨by omega, (((((((Same.rf _ _).set rfl).set rfl).set rfl).set rfl).set rfl).set rfl).set rfl, by funext j; unfold sWish; rw [hA]; simp only [gI_up]; unfold upR; by_cases q1 : j = 12; rw [if_pos q1, if_pos q1]; rw [if_neg q1, if_neg q1]; by_cases q2 : j = 13 + 6 * A + 5; rw [if_pos q2, if_neg (by omega), if_neg (by omega), if_neg (by omega), if_neg (by omega), if_neg (by omega), if_pos q2]; rw [if_neg q2]; by_cases q3 : j = 13 + 6 * A + 4; rw [if_pos q3, if_neg (by omega), if_neg (by omega), if_neg (by omega), if_neg (by omega), if_pos q3]; rw [if_neg q3]; by_cases q4 : j = 13 + 6 * A + 3; rw [if_pos q4, if_neg (by omega), if_neg (by omega), if_neg (by omega), if_pos q4]; rw [if_neg q4]; by_cases q5 : j = 13 + 6 * A + 2; rw [if_pos q5, if_neg (by omega), if_neg (by omega), if_pos q5]; rw [if_neg q5]; by_cases q6 : j = 13 + 6 * A + 1; rw [if_pos q6, if_neg (by omega), if_pos q6]; rw [if_neg q6]; by_cases q7 : j = 13 + 6 * A; rw [if_pos q7, if_pos q7]; rw [if_neg q7, if_neg q7, if_neg q6, if_neg q5, if_neg q4, if_neg q3, if_neg q2]⟩, fun z => absurd ⟨c_14, c_22, c_30, c_35, c_44, c_56, c_68⟩ z⟩)
              · try have c_68 := iB_eq c_68
                refine zs_iconst hΓ dX5_wish_71 (pc' := 72) rfl ⟨by decide, by decide⟩ ?_
                exact zs_iret hΓ dX5_wish_72 rfl (by omega) (by omega) (⟨_, rfl, fun z => absurd z.2.2.2.2.2.2 c_68, fun _ => ⟨rfl, rfl⟩⟩)
theorem con_X5_note (l : Launch) {h : zH} (hTw : TwT h) (hw : RW (gI h (1, 5))) (k : Int) (hk : k = 44 ∨ k = 45 ∨ k = 46) : Con l mX5_note 3 0 0 [zR (some (1, 0)), zR (some (1, k))] h (rV fun h' => Same (fun a _ => a = (1, k)) h h' ∧ ∀ c, 0 ≤ c → c < gI h (1, 5) 0 * gI h (1, 5) 1 → gI h' (1, k) c = iB (sWorn (gI h (1, 5)) (gI h (1, 0) 28) c)) zNo := by
  refine Con.ofS (by decide +kernel) (Nat.le_of_ble_eq_true rfl) fun Γ hΓ hno hwf hav => ?_
  have hΓ : Ctx Γ l cX5_note RX5 "note" 3 (Option.none : Option Jvm.ClassFile.FieldType) _ _ 3 _ _ := hΓ
  show SS Γ 0 [some (zR _), some (zR _), none] [] _ 0 0
  have hc := hw.c
  have hk9 : ∀ h', TwT h' → gT h' (1, k) = some (101, 256) := fun h' hT => by rcases hk with rfl | rfl | rfl; exact tw_a44 hT; exact tw_a45 hT; exact tw_a46 hT
  have ne5 : ¬ ((1, 5) : zNm) = (1, k) := fun z => by have := congrArg Prod.snd z; simp only at this; omega
  have ne0 : ¬ ((1, 0) : zNm) = (1, k) := fun z => by have := congrArg Prod.snd z; simp only at this; omega
  have lp : ∀ (n9 : Nat) (i : Int) (h' : zH), (0 ≤ i ∧ i ≤ gI h (1, 5) 0 * gI h (1, 5) 1) → (Same (fun a _ => a = (1, k)) h h') → (∀ c, 0 ≤ c → c < i → gI h' (1, k) c = iB (sWorn (gI h (1, 5)) (gI h (1, 0) 28) c)) → (gI h (1, 5) 0 * gI h (1, 5) 1 - i < n9) → SS Γ 2 [some (zR (some (1, 0))), some (zR (some (1, k))), some (zI i)] [] h' 0 0 := by
    intro n9
    induction n9 with
    | zero => intro i h' h8 h2 h3 hm9; exact absurd hm9 (by omega)
    | succ n9 ih =>
      intro i h' h8 h2 h3 hm9
      have hTw := hTw.same h2
      have r5 : gI h' (1, 5) = gI h (1, 5) := h2.row fun j => ne5
      have r28 : gI h' (1, 0) 28 = gI h (1, 0) 28 := h2.2.2 _ _ ne0
      refine zs_iload_n hΓ dX5_note_2 (pc' := 3) rfl rfl rfl ?_
      refine zs_aload_n hΓ dX5_note_3 (pc' := 4) rfl rfl rfl ?_
      refine zs_callVIP hΓ dX5_note_4 (pc' := 7) rfl kX5_128 (con_X5_cells l hTw (by rw [r5]; exact hw)) (tw_t hTw) rfl rfl rfl (Nat.le_of_ble_eq_true rfl) (by omega) (by decide) (by omega) (by omega) ?_ (fun _ _ q _ => False.elim q)
      rw [r5]
      refine zs_icmpge hΓ dX5_note_7 (tgt := 24) (by decide) (pc' := 10) rfl (fun c_7 => ?_) (fun c_7 => ?_)
      · exact zs_vret hΓ dX5_note_24 rfl (by omega) (by omega) (⟨rfl, h2, fun c d1 d2 => h3 c d1 (by omega)⟩)
      · refine zs_aload_n hΓ dX5_note_10 (pc' := 11) rfl rfl rfl ?_
        refine zs_iload_n hΓ dX5_note_11 (pc' := 12) rfl rfl rfl ?_
        refine zs_aload_n hΓ dX5_note_12 (pc' := 13) rfl rfl rfl ?_
        refine zs_iload_n hΓ dX5_note_13 (pc' := 14) rfl rfl rfl ?_
        refine zs_callVIP hΓ dX5_note_14 (pc' := 17) rfl kX5_140 (con_X5_isWorn l hTw i (by omega)) (tw_t hTw) rfl rfl rfl (Nat.le_of_ble_eq_true rfl) (by omega) (by decide) (by omega) (by omega) ?_ (fun _ _ q _ => False.elim q)
        rw [r5, r28]
        refine zs_zast hΓ dX5_note_17 (pc' := 18) rfl (hk9 _ hTw) (show (0 : Int) ≤ 1 by decide) (by omega) (by omega) (iB_01 _) ?_
        refine zs_iinc hΓ dX5_note_18 (pc' := 21) rfl (L' := [some (zR _), some (zR _), some (zI _)]) rfl (by unfold inI; omega) (by decide) rfl rfl ?_
        refine zs_goto hΓ dX5_note_21 (tgt := 2) (by decide) ?_
        exact ih (i + 1) _ (by omega) (h2.set rfl) (fun c d1 d2 => by rw [gI_setI]; by_cases q : c = i; rw [if_pos ⟨rfl, q⟩, q]; rw [if_neg (fun z => q z.2)]; exact h3 c d1 (by omega)) (by omega)
  refine zs_iconst hΓ dX5_note_0 (pc' := 1) rfl ⟨by decide, by decide⟩ ?_
  refine zs_istore_n hΓ dX5_note_1 (pc' := 2) rfl (L' := [some (zR _), some (zR _), some (zI _)]) rfl (by decide) rfl rfl ?_
  exact lp 257 0 h (by omega) (Same.rf _ _) (fun c _ _ => by omega) (by omega)
theorem con_X5_isNoted (l : Launch) {h : zH} (hTw : TwT h) (hw : RW (gI h (1, 5))) (W : Int → Prop) (hW : ∀ c, 0 ≤ c → c < gI h (1, 5) 0 * gI h (1, 5) 1 → gI h (1, 44) c = iB (W c)) : Con l mX5_isNoted 3 0 0 [zR (some (1, 0)), zR (some (1, 44))] h (rI fun x h' => x = iB (∀ c, 0 ≤ c → c < gI h (1, 5) 0 * gI h (1, 5) 1 → (W c ↔ sWorn (gI h (1, 5)) (gI h (1, 0) 28) c)) ∧ h' = h) zNo := by
  refine Con.ofS (by decide +kernel) (Nat.le_of_ble_eq_true rfl) fun Γ hΓ hno hwf hav => ?_
  have hΓ : Ctx Γ l cX5_isNoted RX5 "isNoted" 3 (Option.some Jvm.ClassFile.FieldType.boolean) _ _ 3 _ _ := hΓ
  show SS Γ 0 [some (zR _), some (zR _), none] [] _ 0 0
  have hc := hw.c
  have lp : ∀ (n9 : Nat) (i : Int), (0 ≤ i ∧ i ≤ gI h (1, 5) 0 * gI h (1, 5) 1) → (∀ c, 0 ≤ c → c < i → (W c ↔ sWorn (gI h (1, 5)) (gI h (1, 0) 28) c)) → (gI h (1, 5) 0 * gI h (1, 5) 1 - i < n9) → SS Γ 2 [some (zR (some (1, 0))), some (zR (some (1, 44))), some (zI i)] [] h 0 0 := by
    intro n9
    induction n9 with
    | zero => intro i h8 h3 hm9; exact absurd hm9 (by omega)
    | succ n9 ih =>
      intro i h8 h3 hm9
      refine zs_iload_n hΓ dX5_isNoted_2 (pc' := 3) rfl rfl rfl ?_
      refine zs_aload_n hΓ dX5_isNoted_3 (pc' := 4) rfl rfl rfl ?_
      refine zs_callVIP hΓ dX5_isNoted_4 (pc' := 7) rfl kX5_128 (con_X5_cells l hTw hw) (tw_t hTw) rfl rfl rfl (Nat.le_of_ble_eq_true rfl) (by omega) (by decide) (by omega) (by omega) ?_ (fun _ _ q _ => False.elim q)
      refine zs_icmpge hΓ dX5_isNoted_7 (tgt := 29) (by decide) (pc' := 10) rfl (fun c_7 => ?_) (fun c_7 => ?_)
      · refine zs_iconst hΓ dX5_isNoted_29 (pc' := 30) rfl ⟨by decide, by decide⟩ ?_
        exact zs_zret hΓ dX5_isNoted_30 rfl (by first | omega | exact iB_01 _) (by omega) (by omega) (⟨_, rfl, iB_t (fun c d1 d2 => h3 c d1 (by omega)), rfl⟩)
      · refine zs_aload_n hΓ dX5_isNoted_10 (pc' := 11) rfl rfl rfl ?_
        refine zs_iload_n hΓ dX5_isNoted_11 (pc' := 12) rfl rfl rfl ?_
        refine zs_zald hΓ dX5_isNoted_12 (pc' := 13) rfl (tw_a44 hTw) (by omega) (by omega) ?_
        refine zs_eqI (hW i (by omega) (by omega)) ?_
        refine zs_aload_n hΓ dX5_isNoted_13 (pc' := 14) rfl rfl rfl ?_
        refine zs_iload_n hΓ dX5_isNoted_14 (pc' := 15) rfl rfl rfl ?_
        refine zs_callVIP hΓ dX5_isNoted_15 (pc' := 18) rfl kX5_140 (con_X5_isWorn l hTw i (by omega)) (tw_t hTw) rfl rfl rfl (Nat.le_of_ble_eq_true rfl) (by omega) (by decide) (by omega) (by omega) ?_ (fun _ _ q _ => False.elim q)
        refine zs_icmpeq hΓ dX5_isNoted_18 (tgt := 23) (by decide) (pc' := 21) rfl (fun c_18 => ?_) (fun c_18 => ?_)
        · refine zs_iinc hΓ dX5_isNoted_23 (pc' := 26) rfl (L' := [some (zR _), some (zR _), some (zI _)]) rfl (by unfold inI; omega) (by decide) rfl rfl ?_
          refine zs_goto hΓ dX5_isNoted_26 (tgt := 2) (by decide) ?_
          exact ih (i + 1) (by omega) (fun c d1 d2 => by by_cases q : c = i; rw [q]; exact iB_inj c_18; exact h3 c d1 (by omega)) (by omega)
        · refine zs_iconst hΓ dX5_isNoted_21 (pc' := 22) rfl ⟨by decide, by decide⟩ ?_
          exact zs_zret hΓ dX5_isNoted_22 rfl (by first | omega | exact iB_01 _) (by omega) (by omega) (⟨_, rfl, iB_f (fun z => c_18 (iB_iff (z i h8.1 (by omega)))), rfl⟩)
  refine zs_iconst hΓ dX5_isNoted_0 (pc' := 1) rfl ⟨by decide, by decide⟩ ?_
  refine zs_istore_n hΓ dX5_isNoted_1 (pc' := 2) rfl (L' := [some (zR _), some (zR _), some (zI _)]) rfl (by decide) rfl rfl ?_
  exact lp 257 0 (by omega) (fun c _ _ => by omega) (by omega)
