/-! THE TWIN, U: longer, widen -/
set_option maxRecDepth 100000
theorem way_ge {R : Int → Int} {ok : Int → Prop} {a : Int} : ∀ (n : Nat) (c v : Int), rchV R ok kWay (fun c v => c = a ∧ v = 0) n c v → 0 ≤ v ∧ (c ≠ a → 10 ≤ v)
  | 0, c, v, h => ⟨by rw [h.2]; exact Int.le_refl 0, fun z => absurd h.1 z⟩
  | n + 1, c, v, h => by
    rcases h with h | ⟨_, _, d, v', _, _, h5, h6⟩
    · exact way_ge n c v h
    · have h7 := (way_ge n _ _ h5).1
      have h8 : 10 ≤ kWay c d := by unfold kWay; split <;> decide
      exact ⟨by omega, fun _ => by omega⟩
abbrev okLonger (R : Int → Int) (a z : Int) : Prop := sIsDoor R a ∧ sIsDoor R z ∧ a ≠ z
noncomputable def sLonger (R : Int → Int) (b a z : Int) : Int := if sShort R b (R (3 + a)) (R (3 + z)) False < 0 ∨ sShort R b (R (3 + a)) (R (3 + z)) True < 0 then -1 else 100 * sShort R b (R (3 + a)) (R (3 + z)) True / sShort R b (R (3 + a)) (R (3 + z)) False
theorem con_X5_longer (l : Launch) {h h1 : zH} (e1 : h1 = setI h (1, 0) 0 0) (hT1 : TwT h1) {R : Int → Int} {b : Int} (hR : gI h1 (1, 5) = R) (hb : gI h1 (1, 0) 28 = b) (hok : RHd R) (a z : Int) : Con l mX5_longer 5 0 0 [zR (some (1, 0)), zI a, zI z] h (rI fun x h' => (okLonger R a z → x = sLonger R b a z ∧ Same cC h1 h') ∧ (¬ okLonger R a z → x = -2 ∧ h' = h1)) zNo := by
  refine Con.ofS (by decide +kernel) (Nat.le_of_ble_eq_true rfl) fun Γ hΓ hno hwf hav => ?_
  have hΓ : Ctx Γ l cX5_longer RX5 "longer" 5 (Option.some Jvm.ClassFile.FieldType.int) _ _ 5 _ _ := hΓ
  show SS Γ 0 [some (zR _), some (zI _), some (zI _), none, none] [] _ 0 0
  have hTw := hT1.thr e1
  have hw := hok.rw
  have hd9 := hok.d
  have fc : ∀ h', Same (fun a _ => a = (1, 48)) h1 h' → TwT h' ∧ gI h' (1, 5) = R ∧ gI h' (1, 0) 28 = b := fun h' hS => ⟨hT1.same hS, (hS.row fun _ => n1 (by decide)).trans hR, (hS.2.2 _ _ (n1 (by decide))).trans hb⟩
  refine zs_aload_n hΓ dX5_longer_0 (pc' := 1) rfl rfl rfl ?_
  refine zs_iconst hΓ dX5_longer_1 (pc' := 2) rfl ⟨by decide, by decide⟩ ?_
  refine zs_puti hΓ dX5_longer_2 (pc' := 5) rfl fX5_1 (fun q hq => (by cases hq; exact Or.inl rfl)) (i9 := 0) rfl trivial (tw_t hTw) (show (0 : Int) ≤ 1 by decide) ?_
  rw [← e1]; have hTw := hT1
  refine zs_aload_n hΓ dX5_longer_5 (pc' := 6) rfl rfl rfl ?_
  refine zs_iload_n hΓ dX5_longer_6 (pc' := 7) rfl rfl rfl ?_
  refine zs_callVIP hΓ dX5_longer_7 (pc' := 10) rfl kX5_340 (con_X5_isDoor l hTw a (by rw [hR]; exact hd9)) (tw_t hTw) rfl rfl rfl (Nat.le_of_ble_eq_true rfl) (by omega) (by decide) (by omega) (by omega) ?_ (fun _ _ q _ => False.elim q)
  rw [hR]
  refine zs_ifeq hΓ dX5_longer_10 (tgt := 26) (by decide) (pc' := 13) rfl (fun c_10 => ?_) (fun c_10 => ?_)
  · try have c_10 := iB_eq c_10
    refine zs_bipush hΓ dX5_longer_26 (pc' := 28) rfl ⟨by decide, by decide⟩ ?_
    exact zs_iret hΓ dX5_longer_28 rfl (by omega) (by omega) (⟨_, rfl, fun z => absurd z.1 c_10, fun _ => ⟨rfl, rfl⟩⟩)
  · try have c_10 := iB_ne c_10
    refine zs_aload_n hΓ dX5_longer_13 (pc' := 14) rfl rfl rfl ?_
    refine zs_iload_n hΓ dX5_longer_14 (pc' := 15) rfl rfl rfl ?_
    refine zs_callVIP hΓ dX5_longer_15 (pc' := 18) rfl kX5_340 (con_X5_isDoor l hTw z (by rw [hR]; exact hd9)) (tw_t hTw) rfl rfl rfl (Nat.le_of_ble_eq_true rfl) (by omega) (by decide) (by omega) (by omega) ?_ (fun _ _ q _ => False.elim q)
    rw [hR]
    refine zs_ifeq hΓ dX5_longer_18 (tgt := 26) (by decide) (pc' := 21) rfl (fun c_18 => ?_) (fun c_18 => ?_)
    · try have c_18 := iB_eq c_18
      refine zs_bipush hΓ dX5_longer_26 (pc' := 28) rfl ⟨by decide, by decide⟩ ?_
      exact zs_iret hΓ dX5_longer_28 rfl (by omega) (by omega) (⟨_, rfl, fun z => absurd z.2.1 c_18, fun _ => ⟨rfl, rfl⟩⟩)
    · try have c_18 := iB_ne c_18
      refine zs_iload_n hΓ dX5_longer_21 (pc' := 22) rfl rfl rfl ?_
      refine zs_iload_n hΓ dX5_longer_22 (pc' := 23) rfl rfl rfl ?_
      refine zs_icmpne hΓ dX5_longer_23 (tgt := 29) (by decide) (pc' := 26) rfl (fun c_23 => ?_) (fun c_23 => ?_)
      · have da := hok.dc a c_10.1 (by omega)
        have dz := hok.dc z c_18.1 (by omega)
        have hne : R (3 + z) ≠ R (3 + a) := by
          by_cases q : a < z
          · exact fun e => hok.dd a z c_10.1 q (by omega) e.symm
          · exact hok.dd z a c_18.1 (by omega) (by omega)
        refine zs_aload_n hΓ dX5_longer_29 (pc' := 30) rfl rfl rfl ?_
        refine zs_aload_n hΓ dX5_longer_30 (pc' := 31) rfl rfl rfl ?_
        refine zs_getrE hΓ dX5_longer_31 (pc' := 34) rfl fX5_30 (i9 := 5) rfl rfl (tw_t hTw) (tw_p5 hTw) ?_
        refine zs_iconst hΓ dX5_longer_34 (pc' := 35) rfl ⟨by decide, by decide⟩ ?_
        refine zs_iload_n hΓ dX5_longer_35 (pc' := 36) rfl rfl rfl ?_
        refine zs_iadd hΓ dX5_longer_36 (pc' := 37) rfl (by unfold inI; omega) ?_
        refine zs_iald hΓ dX5_longer_37 (pc' := 38) rfl (tw_a5 hTw) (by omega) (by omega) ?_
        refine zs_eqI (congrFun hR _) ?_
        refine zs_aload_n hΓ dX5_longer_38 (pc' := 39) rfl rfl rfl ?_
        refine zs_getrE hΓ dX5_longer_39 (pc' := 42) rfl fX5_30 (i9 := 5) rfl rfl (tw_t hTw) (tw_p5 hTw) ?_
        refine zs_iconst hΓ dX5_longer_42 (pc' := 43) rfl ⟨by decide, by decide⟩ ?_
        refine zs_iload_n hΓ dX5_longer_43 (pc' := 44) rfl rfl rfl ?_
        refine zs_iadd hΓ dX5_longer_44 (pc' := 45) rfl (by unfold inI; omega) ?_
        refine zs_iald hΓ dX5_longer_45 (pc' := 46) rfl (tw_a5 hTw) (by omega) (by omega) ?_
        refine zs_eqI (congrFun hR _) ?_
        refine zs_iconst hΓ dX5_longer_46 (pc' := 47) rfl ⟨by decide, by decide⟩ ?_
        refine zs_eqI (y := iB False) (iB_f id) ?_
        refine zs_callVI hΓ dX5_longer_47 (pc' := 50) rfl kX5_469 (con_X5_shortest l hTw hR hb hw (R (3 + a)) (R (3 + z)) False da.1 dz.1) (tw_t hTw) rfl rfl rfl (Nat.le_of_ble_eq_true rfl) (by omega) (by decide) (by omega) (by omega) (fun x_47 h_47 q_47 k_47 => ?_) (fun _ _ q _ => False.elim q)
        obtain ⟨p1, p2⟩ := q_47
        obtain ⟨hTw, r5, b28⟩ := fc _ p2
        refine zs_istore_n hΓ dX5_longer_50 (pc' := 51) rfl (L' := [some (zR _), some (zI _), some (zI _), some (zI _), none]) rfl (by decide) rfl rfl ?_
        refine zs_aload_n hΓ dX5_longer_51 (pc' := 52) rfl rfl rfl ?_
        refine zs_aload_n hΓ dX5_longer_52 (pc' := 53) rfl rfl rfl ?_
        refine zs_getrE hΓ dX5_longer_53 (pc' := 56) rfl fX5_30 (i9 := 5) rfl rfl (tw_t hTw) (tw_p5 hTw) ?_
        refine zs_iconst hΓ dX5_longer_56 (pc' := 57) rfl ⟨by decide, by decide⟩ ?_
        refine zs_iload_n hΓ dX5_longer_57 (pc' := 58) rfl rfl rfl ?_
        refine zs_iadd hΓ dX5_longer_58 (pc' := 59) rfl (by unfold inI; omega) ?_
        refine zs_iald hΓ dX5_longer_59 (pc' := 60) rfl (tw_a5 hTw) (by omega) (by omega) ?_
        refine zs_eqI (congrFun r5 _) ?_
        refine zs_aload_n hΓ dX5_longer_60 (pc' := 61) rfl rfl rfl ?_
        refine zs_getrE hΓ dX5_longer_61 (pc' := 64) rfl fX5_30 (i9 := 5) rfl rfl (tw_t hTw) (tw_p5 hTw) ?_
        refine zs_iconst hΓ dX5_longer_64 (pc' := 65) rfl ⟨by decide, by decide⟩ ?_
        refine zs_iload_n hΓ dX5_longer_65 (pc' := 66) rfl rfl rfl ?_
        refine zs_iadd hΓ dX5_longer_66 (pc' := 67) rfl (by unfold inI; omega) ?_
        refine zs_iald hΓ dX5_longer_67 (pc' := 68) rfl (tw_a5 hTw) (by omega) (by omega) ?_
        refine zs_eqI (congrFun r5 _) ?_
        refine zs_iconst hΓ dX5_longer_68 (pc' := 69) rfl ⟨by decide, by decide⟩ ?_
        refine zs_eqI (y := iB True) (iB_t trivial) ?_
        refine zs_callVI hΓ dX5_longer_69 (pc' := 72) rfl kX5_469 (con_X5_shortest l hTw r5 b28 hw (R (3 + a)) (R (3 + z)) True da.1 dz.1) (tw_t hTw) rfl rfl rfl (Nat.le_of_ble_eq_true rfl) (by omega) (by decide) (by omega) (by omega) (fun x_69 h_69 q_69 k_69 => ?_) (fun _ _ q _ => False.elim q)
        obtain ⟨p3, p4⟩ := q_69
        have hS := (p2.tr p4).mono fun a j z => (by rw [z]; exact cC_in (by omega) : cC a j)
        have v1 : (sShort R b (R (3 + a)) (R (3 + z)) False = x_47 ∧ 10 ≤ x_47 ∧ x_47 < 10000000) ∨ (sShort R b (R (3 + a)) (R (3 + z)) False = -1 ∧ x_47 = 10000000) := by
          rcases p1 with ⟨q1, q2⟩ | ⟨q1, q2⟩
          · obtain ⟨n, hn⟩ := q2.1
            exact Or.inl ⟨sDst_is q2, (way_ge n _ _ hn).2 hne, q1⟩
          · exact Or.inr ⟨sDst_no q2, q1⟩
        have v2 : (sShort R b (R (3 + a)) (R (3 + z)) True = x_69 ∧ 10 ≤ x_69 ∧ x_69 < 10000000) ∨ (sShort R b (R (3 + a)) (R (3 + z)) True = -1 ∧ x_69 = 10000000) := by
          rcases p3 with ⟨q1, q2⟩ | ⟨q1, q2⟩
          · obtain ⟨n, hn⟩ := q2.1
            exact Or.inl ⟨sDst_is q2, (way_ge n _ _ hn).2 hne, q1⟩
          · exact Or.inr ⟨sDst_no q2, q1⟩
        refine zs_istore hΓ dX5_longer_72 (pc' := 74) rfl (L' := [some (zR _), some (zI _), some (zI _), some (zI _), some (zI _)]) (by decide) rfl rfl ?_
        refine zs_iload_n hΓ dX5_longer_74 (pc' := 75) rfl rfl rfl ?_
        refine zs_ldcw hΓ dX5_longer_75 (pc' := 78) rfl (v := 10000000) q2179 ⟨by decide, by decide⟩ ?_
        refine zs_icmpge hΓ dX5_longer_78 (tgt := 89) (by decide) (pc' := 81) rfl (fun c_78 => ?_) (fun c_78 => ?_)
        · refine zs_iconst hΓ dX5_longer_89 (pc' := 90) rfl ⟨by decide, by decide⟩ ?_
          refine zs_goto hΓ dX5_longer_90 (tgt := 100) (by decide) ?_
          exact zs_iret hΓ dX5_longer_100 rfl (by omega) (by omega) (⟨_, rfl, fun _ => ⟨by unfold sLonger; rw [if_pos (by omega)], hS⟩, fun z => absurd ⟨c_10, c_18, c_23⟩ z⟩)
        · refine zs_iload hΓ dX5_longer_81 (pc' := 83) rfl rfl ?_
          refine zs_ldcw hΓ dX5_longer_83 (pc' := 86) rfl (v := 10000000) q2179 ⟨by decide, by decide⟩ ?_
          refine zs_icmplt hΓ dX5_longer_86 (tgt := 93) (by decide) (pc' := 89) rfl (fun c_86 => ?_) (fun c_86 => ?_)
          · refine zs_bipush hΓ dX5_longer_93 (pc' := 95) rfl ⟨by decide, by decide⟩ ?_
            refine zs_iload hΓ dX5_longer_95 (pc' := 97) rfl rfl ?_
            refine zs_imul hΓ dX5_longer_97 (pc' := 98) rfl (by unfold inI; omega) ?_
            refine zs_iload_n hΓ dX5_longer_98 (pc' := 99) rfl rfl rfl ?_
            refine zs_idiv hΓ dX5_longer_99 (pc' := 100) rfl (by omega) (by omega) ?_
            exact zs_iret hΓ dX5_longer_100 rfl (by omega) (by omega) (⟨_, rfl, fun _ => ⟨by unfold sLonger; rw [if_neg (by omega), (v1.resolve_right (by omega)).1, (v2.resolve_right (by omega)).1], hS⟩, fun z => absurd ⟨c_10, c_18, c_23⟩ z⟩)
          · refine zs_iconst hΓ dX5_longer_89 (pc' := 90) rfl ⟨by decide, by decide⟩ ?_
            refine zs_goto hΓ dX5_longer_90 (tgt := 100) (by decide) ?_
            exact zs_iret hΓ dX5_longer_100 rfl (by omega) (by omega) (⟨_, rfl, fun _ => ⟨by unfold sLonger; rw [if_pos (by omega)], hS⟩, fun z => absurd ⟨c_10, c_18, c_23⟩ z⟩)
      · refine zs_bipush hΓ dX5_longer_26 (pc' := 28) rfl ⟨by decide, by decide⟩ ?_
        exact zs_iret hΓ dX5_longer_28 rfl (by omega) (by omega) (⟨_, rfl, fun z => absurd z.2.2 (fun q => q c_23), fun _ => ⟨rfl, rfl⟩⟩)
abbrev sPrice (R : Int → Int) (c : Int) : Int := if cel R c 0 = 0 ∨ cel R c 0 = 2 then 21 else 1
abbrev kPri (R : Int → Int) : Int → Int → Int := fun c _ => sPrice R c
theorem sPrice_r (R : Int → Int) (c : Int) : 1 ≤ sPrice R c ∧ sPrice R c ≤ 21 := by
  unfold sPrice
  split <;> decide
theorem sVal_ok {R : Int → Int} {ok : Int → Prop} {k : Int → Int → Int} {B : Int → Int → Prop} (hB : ∀ c v, B c v → ok c) {c v : Int} (h : sVal R ok k B c v) : ok c := by
  obtain ⟨n, h⟩ := h
  induction n with
  | zero => exact hB c v h
  | succ n ih =>
    rcases h with h | ⟨_, h, -⟩
    · exact ih h
    · exact h
theorem con_X5_widen (l : Launch) {h : zH} (hTw : TwT h) {R : Int → Int} (hR : gI h (1, 5) = R) (hw : RW R) {B : Int → Int → Prop} {M : Int} (hM : M ≤ 1000000) (f n : Int) (hf : 0 ≤ f ∧ f + 256 ≤ 16384) (hn : n = R 0 * R 1) (hB : ∀ c v, B c v → sBears R c) (I0 : InvV R (fun c => sBears R c) (kPri R) B 10000000 M 21 (fun c => gI h (1, 47) (f + c))) : Con l mX5_widen 4 0 0 [zR (some (1, 0)), zI f, zI n] h (rV fun h' => Same (fun a j => a = (1, 47) ∧ f ≤ j ∧ j < f + n) h h' ∧ ∀ c, 0 ≤ c → c < R 0 * R 1 → ((gI h' (1, 47) (f + c) < 10000000 ∧ gI h' (1, 47) (f + c) ≤ M + 5376) ∧ IsL R (fun c => sBears R c) (kPri R) B c (gI h' (1, 47) (f + c))) ∨ (gI h' (1, 47) (f + c) = 10000000 ∧ ∀ v, ¬ sVal R (fun c => sBears R c) (kPri R) B c v)) zNo := by
  refine Con.ofS (by decide +kernel) (Nat.le_of_ble_eq_true rfl) fun Γ hΓ hno hwf hav => ?_
  have hΓ : Ctx Γ l cX5_widen RX5 "widen" 7 (Option.none : Option Jvm.ClassFile.FieldType) _ _ 4 _ _ := hΓ
  show SS Γ 0 [some (zR _), some (zI _), some (zI _), none, none, none, none] [] _ 0 0
  have hcs := hw.c
  have T0 := hTw
  have hkk : ∀ c d, 0 ≤ kPri R c d ∧ kPri R c d ≤ 21 := fun c d => by have := sPrice_r R c; show 0 ≤ sPrice R c ∧ sPrice R c ≤ 21; omega
  have fc : ∀ h', Same (fun a j => a = (1, 47) ∧ f ≤ j ∧ j < f + n) h h' → TwT h' ∧ gI h' (1, 5) = R := fun h' hS => ⟨T0.same hS, (hS.row fun _ z => n1 (by decide) z.1).trans hR⟩
  generalize hok : (fun c => sBears R c) = ok at hΓ I0
  have oke : ∀ c, ok c ↔ sBears R c := fun c => by rw [← hok]
  have hBo : ∀ c v, B c v → ok c := fun c v h => (oke c).mpr (hB c v h)
  have gup : ∀ (h' : zH) (c v : Int), (fun x => gI (setI h' (1, 47) (f + c) v) (1, 47) (f + x)) = upR (fun x => gI h' (1, 47) (f + x)) c v := fun h' c v => by
    funext x
    unfold upR
    rw [gI_setI]
    by_cases e : x = c
    · rw [if_pos ⟨rfl, by rw [e]⟩, if_pos e]
    · rw [if_neg (fun z => e (by omega)), if_neg e]
  have outer : ∀ (U : Nat) (h' : zH) (more : Int), sumF (fun c => gI h' (1, 47) (f + c)) (R 0 * R 1).toNat ≤ U → Same (fun a j => a = (1, 47) ∧ f ≤ j ∧ j < f + n) h h' → InvV R ok (kPri R) B 10000000 M 21 (fun c => gI h' (1, 47) (f + c)) → ((more = 0 ∧ ∀ c d, (0 ≤ c ∧ c < R 0 * R 1) → (0 ≤ d ∧ d < 8) → ClsV R ok (kPri R) (fun c => gI h' (1, 47) (f + c)) c d) ∨ more = 1) → SS Γ 2 [some (zR (some (1, 0))), some (zI f), some (zI n), some (zI more), none, none, none] [] h' 0 0 := by
    intro U
    induction U using Nat.strongRecOn with
    | _ U ihU =>
      intro h' more hU hS I hmo
      have done : ∀ h'' (mo : Int), Same (fun a j => a = (1, 47) ∧ f ≤ j ∧ j < f + n) h h'' → InvV R ok (kPri R) B 10000000 M 21 (fun c => gI h'' (1, 47) (f + c)) → mo = 0 → (∀ c d, (0 ≤ c ∧ c < R 0 * R 1) → (0 ≤ d ∧ d < 8) → ClsV R ok (kPri R) (fun c => gI h'' (1, 47) (f + c)) c d) → SS Γ 2 [some (zR (some (1, 0))), some (zI f), some (zI n), some (zI mo), none, none, none] [] h'' 0 0 := by
        intro h'' mo hS2 I2 hmo2 hcl
        refine zs_iload_n hΓ dX5_widen_2 (pc' := 3) rfl rfl rfl ?_
        refine zs_ifeq hΓ dX5_widen_3 (tgt := 133) (by decide) (pc' := 6) rfl (fun c_3 => ?_) (fun c_3 => False.elim (absurd hmo2 c_3))
        exact zs_vret hΓ dX5_widen_133 rfl (by omega) (by omega) (⟨rfl, hS2, fun c c1 c2 => (I2.fin hw (by decide) hkk (by omega) hcl ⟨c1, c2⟩).imp (fun z => ⟨⟨z.1, by have h1 := I2.bd c c1 c2 z.1; have h2 := cntP_r (fun x => gI h'' (1, 47) (f + x) < 10000000) (R 0 * R 1).toNat; omega⟩, z.2⟩) id⟩)
      have cells : ∀ (m : Nat) (c mo : Int) (h'' : zH), c + m = n → 0 ≤ c → Same (fun a j => a = (1, 47) ∧ f ≤ j ∧ j < f + n) h h'' → InvV R ok (kPri R) B 10000000 M 21 (fun c => gI h'' (1, 47) (f + c)) → ((mo = 0 ∧ (∀ x d, 0 ≤ x → x < c → (0 ≤ d ∧ d < 8) → ClsV R ok (kPri R) (fun c => gI h'' (1, 47) (f + c)) x d)) ∨ (mo = 1 ∧ sumF (fun c => gI h'' (1, 47) (f + c)) (R 0 * R 1).toNat < sumF (fun c => gI h' (1, 47) (f + c)) (R 0 * R 1).toNat)) → sumF (fun c => gI h'' (1, 47) (f + c)) (R 0 * R 1).toNat ≤ sumF (fun c => gI h' (1, 47) (f + c)) (R 0 * R 1).toNat → SS Γ 11 [some (zR (some (1, 0))), some (zI f), some (zI n), some (zI mo), some (zI c), none, none] [] h'' 0 0 := by
        intro m
        induction m with
        | zero =>
          intro c mo h'' hc hc0 hS2 I2 hmo2 hle
          have fin : SS Γ 2 [some (zR (some (1, 0))), some (zI f), some (zI n), some (zI mo), none, none, none] [] h'' 0 0 := by
            rcases hmo2 with ⟨q1, q2⟩ | ⟨q1, q2⟩
            · exact done h'' mo hS2 I2 q1 (fun x d x1 x2 => q2 x d x1.1 (by omega) x2)
            · have hnn := sumF_nn (a := fun c => gI h'' (1, 47) (f + c)) (R 0 * R 1).toNat (fun x x1 x2 => (I2.rg x x1 (by omega)).1)
              exact ihU (sumF (fun c => gI h'' (1, 47) (f + c)) (R 0 * R 1).toNat).toNat (by omega) h'' mo (by omega) hS2 I2 (Or.inr q1)
          refine zs_iload hΓ dX5_widen_11 (pc' := 13) rfl rfl ?_
          refine zs_iload_n hΓ dX5_widen_13 (pc' := 14) rfl rfl rfl ?_
          refine zs_icmpge hΓ dX5_widen_14 (tgt := 130) (by decide) (pc' := 17) rfl (fun c_14 => ?_) (fun c_14 => False.elim (absurd c_14 (by omega)))
          refine zs_goto hΓ dX5_widen_130 (tgt := 2) (by decide) ?_
          refine zs_drop 4 (L' := [some (zR _), some (zI _), some (zI _), some (zI _), none, none, none]) rfl ?_
          exact fin
        | succ m ih =>
          intro c mo h'' hc hc0 hS2 I2 hmo2 hle
          have hcc : 0 ≤ c ∧ c < R 0 * R 1 := ⟨hc0, by omega⟩
          have ways : ∀ (m8 : Nat) (d mo : Int) (h3 : zH), d + m8 = 8 → 0 ≤ d → Same (fun a j => a = (1, 47) ∧ f ≤ j ∧ j < f + n) h h3 → InvV R ok (kPri R) B 10000000 M 21 (fun c => gI h3 (1, 47) (f + c)) → ((mo = 0 ∧ (∀ x d, 0 ≤ x → x < c → (0 ≤ d ∧ d < 8) → ClsV R ok (kPri R) (fun c => gI h3 (1, 47) (f + c)) x d) ∧ ∀ d', 0 ≤ d' → d' < d → ClsV R ok (kPri R) (fun c => gI h3 (1, 47) (f + c)) c d') ∨ (mo = 1 ∧ sumF (fun c => gI h3 (1, 47) (f + c)) (R 0 * R 1).toNat < sumF (fun c => gI h' (1, 47) (f + c)) (R 0 * R 1).toNat)) → sumF (fun c => gI h3 (1, 47) (f + c)) (R 0 * R 1).toNat ≤ sumF (fun c => gI h' (1, 47) (f + c)) (R 0 * R 1).toNat → SS Γ 20 [some (zR (some (1, 0))), some (zI f), some (zI n), some (zI mo), some (zI c), some (zI d), none] [] h3 0 0 := by
            intro m8
            induction m8 with
            | zero =>
              intro d mo h3 hd hd0 hS3 I3 hmo3 hle3
              refine zs_iload hΓ dX5_widen_20 (pc' := 22) rfl rfl ?_
              refine zs_bipush hΓ dX5_widen_22 (pc' := 24) rfl ⟨by decide, by decide⟩ ?_
              refine zs_icmpge hΓ dX5_widen_24 (tgt := 124) (by decide) (pc' := 27) rfl (fun c_24 => ?_) (fun c_24 => False.elim (absurd c_24 (by omega)))
              refine zs_iinc hΓ dX5_widen_124 (pc' := 127) rfl (L' := [some (zR _), some (zI _), some (zI _), some (zI _), some (zI _), some (zI _), none]) rfl (by unfold inI; omega) (by decide) rfl rfl ?_
              refine zs_goto hΓ dX5_widen_127 (tgt := 11) (by decide) ?_
              refine zs_drop 5 (L' := [some (zR _), some (zI _), some (zI _), some (zI _), some (zI _), none, none]) rfl ?_
              exact ih (c + 1) mo h3 (by omega) (by omega) hS3 I3 (hmo3.imp (fun q => ⟨q.1, fun x d' x1 x2 x3 => by by_cases e : x = c; rw [e]; exact q.2.2 d' x3.1 (by omega); exact q.2.1 x d' x1 (by omega) x3⟩) id) hle3
            | succ m8 ih8 =>
              intro d mo h3 hd hd0 hS3 I3 hmo3 hle3
              obtain ⟨hTw, r5⟩ := fc h3 hS3
              have hbr := sBeside_r hw (c := c) (d := d)
              have rc := I3.rg c hcc.1 hcc.2
              have hpr := sPrice_r R c
              have next : ClsV R ok (kPri R) (fun c => gI h3 (1, 47) (f + c)) c d → SS Γ 20 [some (zR (some (1, 0))), some (zI f), some (zI n), some (zI mo), some (zI c), some (zI (d + 1)), none] [] h3 0 0 := fun hc9 => ih8 (d + 1) mo h3 (by omega) (by omega) hS3 I3 (hmo3.imp (fun q => ⟨q.1, q.2.1, fun d' d1 d2 => by by_cases e : d' = d; rw [e]; exact hc9; exact q.2.2 d' d1 (by omega)⟩) id) hle3
              have none9 : ¬ ok c → SS Γ 11 [some (zR (some (1, 0))), some (zI f), some (zI n), some (zI mo), some (zI (c + 1)), none, none] [] h3 0 0 := fun hno => ih (c + 1) mo h3 (by omega) (by omega) hS3 I3 (hmo3.imp (fun q => ⟨q.1, fun x d' x1 x2 x3 => by by_cases e : x = c; rw [e]; exact fun z => absurd z hno; exact q.2.1 x d' x1 (by omega) x3⟩) id) hle3
              have clsO : ¬ (0 ≤ sBeside R c d ∧ sBears R (sBeside R c d)) → ClsV R ok (kPri R) (fun c => gI h3 (1, 47) (f + c)) c d := fun z _ y => by
                have hbr := hbr.resolve_left (by omega)
                have ro := I3.rg _ hbr.1 hbr.2
                have : ¬ gI h3 (1, 47) (f + sBeside R c d) < 10000000 := fun q => z ⟨y, (oke _).mp (sVal_ok hBo (I3.sd _ hbr.1 hbr.2 q))⟩
                show gI h3 (1, 47) (f + c) ≤ gI h3 (1, 47) (f + sBeside R c d) + sPrice R c
                omega
              have hit : ok c → 0 ≤ sBeside R c d → gI h3 (1, 47) (f + sBeside R c d) + sPrice R c < gI h3 (1, 47) (f + c) → SS Γ 20 [some (zR (some (1, 0))), some (zI f), some (zI n), some (zI 1), some (zI c), some (zI (d + 1)), none] [] (setI h3 (1, 47) (f + c) (gI h3 (1, 47) (f + sBeside R c d) + sPrice R c)) 0 0 := fun hokc hbes hlt => by
                obtain ⟨s1, s2⟩ := I3.step hcc hokc ⟨hd0, by omega⟩ hw hbes (hkk c d) hlt
                refine ih8 (d + 1) 1 _ (by omega) (by omega) (hS3.set ⟨rfl, by omega, by omega⟩) ?_ (Or.inr ⟨rfl, ?_⟩) ?_
                · rw [gup]; exact s1
                · rw [gup]; exact Int.lt_of_lt_of_le s2 hle3
                · rw [gup]; exact Int.le_of_lt (Int.lt_of_lt_of_le s2 hle3)
              have rgo : 0 ≤ sBeside R c d → 0 ≤ gI h3 (1, 47) (f + sBeside R c d) ∧ gI h3 (1, 47) (f + sBeside R c d) ≤ 10000000 := fun z => by
                have hbr := hbr.resolve_left (by omega)
                exact I3.rg _ hbr.1 hbr.2
              have rc : 0 ≤ gI h3 (1, 47) (f + c) ∧ gI h3 (1, 47) (f + c) ≤ 10000000 := rc
              refine zs_iload hΓ dX5_widen_20 (pc' := 22) rfl rfl ?_
              refine zs_bipush hΓ dX5_widen_22 (pc' := 24) rfl ⟨by decide, by decide⟩ ?_
              refine zs_icmpge hΓ dX5_widen_24 (tgt := 124) (by decide) (pc' := 27) rfl (fun c_24 => False.elim (absurd c_24 (by omega))) (fun c_24 => ?_)
              refine zs_aload_n hΓ dX5_widen_27 (pc' := 28) rfl rfl rfl ?_
              refine zs_iload hΓ dX5_widen_28 (pc' := 30) rfl rfl ?_
              refine zs_callVIP hΓ dX5_widen_30 (pc' := 33) rfl kX5_158 (con_X5_bears l hTw c (by omega)) (tw_t hTw) rfl rfl rfl (Nat.le_of_ble_eq_true rfl) (by omega) (by decide) (by omega) (by omega) ?_ (fun _ _ q _ => False.elim q)
              rw [r5]
              refine zs_ifeq hΓ dX5_widen_33 (tgt := 124) (by decide) (pc' := 36) rfl (fun c_33 => ?_) (fun c_33 => ?_)
              · try have c_33 := iB_eq c_33
                refine zs_iinc hΓ dX5_widen_124 (pc' := 127) rfl (L' := [some (zR _), some (zI _), some (zI _), some (zI _), some (zI _), some (zI _), none]) rfl (by unfold inI; omega) (by decide) rfl rfl ?_
                refine zs_goto hΓ dX5_widen_127 (tgt := 11) (by decide) ?_
                refine zs_drop 5 (L' := [some (zR _), some (zI _), some (zI _), some (zI _), some (zI _), none, none]) rfl ?_
                exact none9 (fun q => c_33 ((oke c).mp q))
              · try have c_33 := iB_ne c_33
                refine zs_aload_n hΓ dX5_widen_36 (pc' := 37) rfl rfl rfl ?_
                refine zs_iload hΓ dX5_widen_37 (pc' := 39) rfl rfl ?_
                refine zs_iload hΓ dX5_widen_39 (pc' := 41) rfl rfl ?_
                refine zs_callVIP hΓ dX5_widen_41 (pc' := 44) rfl kX5_380 (con_X5_beside l hTw (by rw [r5]; exact hw) c d (by rw [r5]; exact hcc) (by omega)) (tw_t hTw) rfl rfl rfl (Nat.le_of_ble_eq_true rfl) (by omega) (by decide) (by omega) (by omega) ?_ (fun _ _ q _ => False.elim q)
                rw [r5]
                refine zs_istore hΓ dX5_widen_44 (pc' := 46) rfl (L' := [some (zR _), some (zI _), some (zI _), some (zI _), some (zI _), some (zI _), some (zI _)]) (by decide) rfl rfl ?_
                refine zs_iload hΓ dX5_widen_46 (pc' := 48) rfl rfl ?_
                refine zs_iflt hΓ dX5_widen_48 (tgt := 118) (by decide) (pc' := 51) rfl (fun c_48 => ?_) (fun c_48 => ?_)
                · refine zs_iinc hΓ dX5_widen_118 (pc' := 121) rfl (L' := [some (zR _), some (zI _), some (zI _), some (zI _), some (zI _), some (zI _), some (zI _)]) rfl (by unfold inI; omega) (by decide) rfl rfl ?_
                  refine zs_goto hΓ dX5_widen_121 (tgt := 20) (by decide) ?_
                  refine zs_drop 6 (L' := [some (zR _), some (zI _), some (zI _), some (zI _), some (zI _), some (zI _), none]) rfl ?_
                  exact next (clsO (fun q => absurd q.1 (by omega)))
                · refine zs_aload_n hΓ dX5_widen_51 (pc' := 52) rfl rfl rfl ?_
                  refine zs_iload hΓ dX5_widen_52 (pc' := 54) rfl rfl ?_
                  refine zs_callVIP hΓ dX5_widen_54 (pc' := 57) rfl kX5_158 (con_X5_bears l hTw _ (by omega)) (tw_t hTw) rfl rfl rfl (Nat.le_of_ble_eq_true rfl) (by omega) (by decide) (by omega) (by omega) ?_ (fun _ _ q _ => False.elim q)
                  rw [r5]
                  refine zs_ifeq hΓ dX5_widen_57 (tgt := 118) (by decide) (pc' := 60) rfl (fun c_57 => ?_) (fun c_57 => ?_)
                  · try have c_57 := iB_eq c_57
                    refine zs_iinc hΓ dX5_widen_118 (pc' := 121) rfl (L' := [some (zR _), some (zI _), some (zI _), some (zI _), some (zI _), some (zI _), some (zI _)]) rfl (by unfold inI; omega) (by decide) rfl rfl ?_
                    refine zs_goto hΓ dX5_widen_121 (tgt := 20) (by decide) ?_
                    refine zs_drop 6 (L' := [some (zR _), some (zI _), some (zI _), some (zI _), some (zI _), some (zI _), none]) rfl ?_
                    exact next (clsO (fun q => c_57 q.2))
                  · try have c_57 := iB_ne c_57
                    have rgo := rgo (by omega)
                    refine zs_aload_n hΓ dX5_widen_60 (pc' := 61) rfl rfl rfl ?_
                    refine zs_getrE hΓ dX5_widen_61 (pc' := 64) rfl fX5_101 (i9 := 47) rfl rfl (tw_t hTw) (tw_p47 hTw) ?_
                    refine zs_iload_n hΓ dX5_widen_64 (pc' := 65) rfl rfl rfl ?_
                    refine zs_iload hΓ dX5_widen_65 (pc' := 67) rfl rfl ?_
                    refine zs_iadd hΓ dX5_widen_67 (pc' := 68) rfl (by unfold inI; omega) ?_
                    refine zs_iald hΓ dX5_widen_68 (pc' := 69) rfl (tw_a47 hTw) (by omega) (by omega) ?_
                    refine zs_aload_n hΓ dX5_widen_69 (pc' := 70) rfl rfl rfl ?_
                    refine zs_iload hΓ dX5_widen_70 (pc' := 72) rfl rfl ?_
                    refine zs_callVIP hΓ dX5_widen_72 (pc' := 75) rfl kX5_463 (con_X5_price l hTw c (by omega)) (tw_t hTw) rfl rfl rfl (Nat.le_of_ble_eq_true rfl) (by omega) (by decide) (by omega) (by omega) ?_ (fun _ _ q _ => False.elim q)
                    rw [r5]
                    refine zs_iadd hΓ dX5_widen_75 (pc' := 76) rfl (by unfold inI; omega) ?_
                    refine zs_aload_n hΓ dX5_widen_76 (pc' := 77) rfl rfl rfl ?_
                    refine zs_getrE hΓ dX5_widen_77 (pc' := 80) rfl fX5_101 (i9 := 47) rfl rfl (tw_t hTw) (tw_p47 hTw) ?_
                    refine zs_iload_n hΓ dX5_widen_80 (pc' := 81) rfl rfl rfl ?_
                    refine zs_iload hΓ dX5_widen_81 (pc' := 83) rfl rfl ?_
                    refine zs_iadd hΓ dX5_widen_83 (pc' := 84) rfl (by unfold inI; omega) ?_
                    refine zs_iald hΓ dX5_widen_84 (pc' := 85) rfl (tw_a47 hTw) (by omega) (by omega) ?_
                    refine zs_icmplt hΓ dX5_widen_85 (tgt := 91) (by decide) (pc' := 88) rfl (fun c_85 => ?_) (fun c_85 => ?_)
                    · refine zs_aload_n hΓ dX5_widen_91 (pc' := 92) rfl rfl rfl ?_
                      refine zs_getrE hΓ dX5_widen_92 (pc' := 95) rfl fX5_101 (i9 := 47) rfl rfl (tw_t hTw) (tw_p47 hTw) ?_
                      refine zs_iload_n hΓ dX5_widen_95 (pc' := 96) rfl rfl rfl ?_
                      refine zs_iload hΓ dX5_widen_96 (pc' := 98) rfl rfl ?_
                      refine zs_iadd hΓ dX5_widen_98 (pc' := 99) rfl (by unfold inI; omega) ?_
                      refine zs_aload_n hΓ dX5_widen_99 (pc' := 100) rfl rfl rfl ?_
                      refine zs_getrE hΓ dX5_widen_100 (pc' := 103) rfl fX5_101 (i9 := 47) rfl rfl (tw_t hTw) (tw_p47 hTw) ?_
                      refine zs_iload_n hΓ dX5_widen_103 (pc' := 104) rfl rfl rfl ?_
                      refine zs_iload hΓ dX5_widen_104 (pc' := 106) rfl rfl ?_
                      refine zs_iadd hΓ dX5_widen_106 (pc' := 107) rfl (by unfold inI; omega) ?_
                      refine zs_iald hΓ dX5_widen_107 (pc' := 108) rfl (tw_a47 hTw) (by omega) (by omega) ?_
                      refine zs_aload_n hΓ dX5_widen_108 (pc' := 109) rfl rfl rfl ?_
                      refine zs_iload hΓ dX5_widen_109 (pc' := 111) rfl rfl ?_
                      refine zs_callVIP hΓ dX5_widen_111 (pc' := 114) rfl kX5_463 (con_X5_price l hTw c (by omega)) (tw_t hTw) rfl rfl rfl (Nat.le_of_ble_eq_true rfl) (by omega) (by decide) (by omega) (by omega) ?_ (fun _ _ q _ => False.elim q)
                      rw [r5]
                      refine zs_iadd hΓ dX5_widen_114 (pc' := 115) rfl (by unfold inI; omega) ?_
                      refine zs_iast hΓ dX5_widen_115 (pc' := 116) rfl (tw_a47 hTw) (show (0 : Int) ≤ 1 by decide) (by omega) (by omega) ?_
                      refine zs_iconst hΓ dX5_widen_116 (pc' := 117) rfl ⟨by decide, by decide⟩ ?_
                      refine zs_istore_n hΓ dX5_widen_117 (pc' := 118) rfl (L' := [some (zR _), some (zI _), some (zI _), some (zI _), some (zI _), some (zI _), some (zI _)]) rfl (by decide) rfl rfl ?_
                      refine zs_iinc hΓ dX5_widen_118 (pc' := 121) rfl (L' := [some (zR _), some (zI _), some (zI _), some (zI _), some (zI _), some (zI _), some (zI _)]) rfl (by unfold inI; omega) (by decide) rfl rfl ?_
                      refine zs_goto hΓ dX5_widen_121 (tgt := 20) (by decide) ?_
                      refine zs_drop 6 (L' := [some (zR _), some (zI _), some (zI _), some (zI _), some (zI _), some (zI _), none]) rfl ?_
                      exact hit ((oke c).mpr c_33) (by omega) c_85
                    · refine zs_goto hΓ dX5_widen_88 (tgt := 118) (by decide) ?_
                      refine zs_iinc hΓ dX5_widen_118 (pc' := 121) rfl (L' := [some (zR _), some (zI _), some (zI _), some (zI _), some (zI _), some (zI _), some (zI _)]) rfl (by unfold inI; omega) (by decide) rfl rfl ?_
                      refine zs_goto hΓ dX5_widen_121 (tgt := 20) (by decide) ?_
                      refine zs_drop 6 (L' := [some (zR _), some (zI _), some (zI _), some (zI _), some (zI _), some (zI _), none]) rfl ?_
                      exact next (fun _ _ => by show gI h3 (1, 47) (f + c) ≤ gI h3 (1, 47) (f + sBeside R c d) + sPrice R c; omega)
          refine zs_iload hΓ dX5_widen_11 (pc' := 13) rfl rfl ?_
          refine zs_iload_n hΓ dX5_widen_13 (pc' := 14) rfl rfl rfl ?_
          refine zs_icmpge hΓ dX5_widen_14 (tgt := 130) (by decide) (pc' := 17) rfl (fun c_14 => False.elim (absurd c_14 (by omega))) (fun c_14 => ?_)
          refine zs_iconst hΓ dX5_widen_17 (pc' := 18) rfl ⟨by decide, by decide⟩ ?_
          refine zs_istore hΓ dX5_widen_18 (pc' := 20) rfl (L' := [some (zR _), some (zI _), some (zI _), some (zI _), some (zI _), some (zI _), none]) (by decide) rfl rfl ?_
          exact ways 8 0 mo h'' (by omega) (by omega) hS2 I2 (hmo2.imp (fun q => ⟨q.1, q.2, fun d' d1 d2 => by omega⟩) id) hle
      rcases hmo with ⟨q1, q2⟩ | q1
      · exact done h' more hS I q1 q2
      · subst q1
        refine zs_iload_n hΓ dX5_widen_2 (pc' := 3) rfl rfl rfl ?_
        refine zs_ifeq hΓ dX5_widen_3 (tgt := 133) (by decide) (pc' := 6) rfl (fun c_3 => False.elim (absurd c_3 (by decide))) (fun c_3 => ?_)
        refine zs_iconst hΓ dX5_widen_6 (pc' := 7) rfl ⟨by decide, by decide⟩ ?_
        refine zs_istore_n hΓ dX5_widen_7 (pc' := 8) rfl (L' := [some (zR _), some (zI _), some (zI _), some (zI _), none, none, none]) rfl (by decide) rfl rfl ?_
        refine zs_iconst hΓ dX5_widen_8 (pc' := 9) rfl ⟨by decide, by decide⟩ ?_
        refine zs_istore hΓ dX5_widen_9 (pc' := 11) rfl (L' := [some (zR _), some (zI _), some (zI _), some (zI _), some (zI _), none, none]) (by decide) rfl rfl ?_
        exact cells n.toNat 0 0 h' (by omega) (by omega) hS I (Or.inl ⟨rfl, fun x d x1 x2 => by omega⟩) (Int.le_refl _)
  refine zs_iconst hΓ dX5_widen_0 (pc' := 1) rfl ⟨by decide, by decide⟩ ?_
  refine zs_istore_n hΓ dX5_widen_1 (pc' := 2) rfl (L' := [some (zR _), some (zI _), some (zI _), some (zI _), none, none, none]) rfl (by decide) rfl rfl ?_
  exact outer (sumF (fun c => gI h (1, 47) (f + c)) (R 0 * R 1).toNat).toNat h 1 (by have := sumF_nn (a := fun c => gI h (1, 47) (f + c)) (R 0 * R 1).toNat (fun x x1 x2 => (I0.rg x x1 (by omega)).1); omega) (Same.rf _ _) I0 (Or.inr rfl)
