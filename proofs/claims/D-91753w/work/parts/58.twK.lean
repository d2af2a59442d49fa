/-! THE TWIN, K: weeks, ticks, runs -/
set_option maxRecDepth 100000
theorem sA_congr {R R' : Int → Int} {b mu c : Int} (e : ∀ w, 0 ≤ w → w < 7 → cel R c w = cel R' c w) : sA R b mu c = sA R' b mu c := by
  funext s
  show aTrue (fun w => cel R c w) b mu s = aTrue (fun w => cel R' c w) b mu s
  unfold aTrue aFlag aV
  dsimp only
  rw [e 0 (by decide) (by decide), e 1 (by decide) (by decide), e 2 (by decide) (by decide), e 3 (by decide) (by decide), e 4 (by decide) (by decide), e 5 (by decide) (by decide)]
theorem mapC_cel' {n : Int} {f : Int → Int → Int} {R : Int → Int} {c w : Int} (hc : 0 ≤ c) (h : n ≤ c) (hw : 0 ≤ w ∧ w < 7) : cel (mapC n f R) c w = cel R c w := by
  rw [mapC_cel hc hw, if_neg (by omega)]
theorem con_X5_endWeek (l : Launch) {h : zH} {B b mu dry : Int} {tx0 : zTx} {hs : Int → zTx} (T : TwK h B b mu tx0 hs) (hd : gI h (1, 0) 30 = dry) (hdr : 0 ≤ dry ∧ dry ≤ 999) : Con l mX5_endWeek 7 0 0 [zR (some (1, 0))] h (rV fun h' => Same (fun a _ => a = (1, 5) ∨ a = (1, 33)) h h' ∧ gI h' (1, 5) = sWeek b mu dry tx0 (gI h (1, 5))) zNo := by
  refine Con.ofS (by decide +kernel) (Nat.le_of_ble_eq_true rfl) fun Γ hΓ hno hwf hav => ?_
  have hΓ : Ctx Γ l cX5_endWeek RX5 "endWeek" 4 (Option.none : Option Jvm.ClassFile.FieldType) _ _ 7 _ _ := hΓ
  show SS Γ 0 [some (zR _), none, none, none] [] _ 0 0
  have hTw0 := T.tw
  have hok := T.ok
  have hT0 := T.t0
  generalize hR : gI h (1, 5) = R at *
  have hw9 := hok.hd.rw
  have hcs := hw9.c
  generalize hf1 : (fun c w => if w = 3 then (if cel R c 3 - txFirst (sA R b mu c) 1 10 tx0 < 0 then 0 else cel R c 3 - txFirst (sA R b mu c) 1 10 tx0) else if w = 4 then (if cel R c 4 - dry < 0 then 0 else cel R c 4 - dry) else cel R c w) = f1
  have f1e : ∀ c w, f1 c w = if w = 3 then (if cel R c 3 - txFirst (sA R b mu c) 1 10 tx0 < 0 then 0 else cel R c 3 - txFirst (sA R b mu c) 1 10 tx0) else if w = 4 then (if cel R c 4 - dry < 0 then 0 else cel R c 4 - dry) else cel R c w := fun c w => by rw [← hf1]
  generalize hf2 : (fun c w => if w = 5 then 0 else cel (mapC (R 0 * R 1) f1 R) c w) = f2
  have f2e : ∀ c w, f2 c w = if w = 5 then 0 else cel (mapC (R 0 * R 1) f1 R) c w := fun c w => by rw [← hf2]
  have hend : mapC (R 0 * R 1) f2 (mapC (R 0 * R 1) f1 R) = sWeek b mu dry tx0 R := by
    funext j
    unfold sWeek
    show (if 522 ≤ j ∧ (j - 522) / 7 < R 0 * R 1 then f2 ((j - 522) / 7) ((j - 522) % 7) else mapC (R 0 * R 1) f1 R j) = if 522 ≤ j ∧ (j - 522) / 7 < R 0 * R 1 then (if (j - 522) % 7 = 3 then (if cel R ((j - 522) / 7) 3 - txFirst (sA R b mu ((j - 522) / 7)) 1 10 tx0 < 0 then 0 else cel R ((j - 522) / 7) 3 - txFirst (sA R b mu ((j - 522) / 7)) 1 10 tx0) else if (j - 522) % 7 = 4 then (if cel R ((j - 522) / 7) 4 - dry < 0 then 0 else cel R ((j - 522) / 7) 4 - dry) else if (j - 522) % 7 = 5 then 0 else cel R ((j - 522) / 7) ((j - 522) % 7)) else R j
    by_cases e : 522 ≤ j ∧ (j - 522) / 7 < R 0 * R 1
    · rw [if_pos e, if_pos e, f2e]
      by_cases e5 : (j - 522) % 7 = 5
      · rw [if_pos e5, if_neg (by omega), if_neg (by omega), if_pos e5]
      · rw [if_neg e5, mapC_cel (by omega) (by omega), if_pos e.2, f1e, if_neg e5]
    · rw [if_neg e, if_neg e]
      show (if 522 ≤ j ∧ (j - 522) / 7 < R 0 * R 1 then _ else R j) = _
      rw [if_neg e]
  have lp2 : ∀ (n9 : Nat) (i : Int) (h' : zH), (0 ≤ i ∧ i ≤ R 0 * R 1) → (Same (fun a _ => a = (1, 5) ∨ a = (1, 33)) h h') → (gI h' (1, 5) = mapC i f2 (mapC (R 0 * R 1) f1 R)) → (R 0 * R 1 - i < n9) → SS Γ 76 [some (zR (some (1, 0))), some (zI i), none, none] [] h' 0 0 := by
    intro n9
    induction n9 with
    | zero => intro i h' h8 hS hr hm9; exact absurd hm9 (by omega)
    | succ n9 ih =>
      intro i h' h8 hS hr hm9
      have hTw := hTw0.same hS
      have r0 : gI h' (1, 5) 0 = R 0 := by rw [hr, mapC_lo (by decide), mapC_lo (by decide)]
      have r1 : gI h' (1, 5) 1 = R 1 := by rw [hr, mapC_lo (by decide), mapC_lo (by decide)]
      refine zs_iload_n hΓ dX5_endWeek_76 (pc' := 77) rfl rfl rfl ?_
      refine zs_aload_n hΓ dX5_endWeek_77 (pc' := 78) rfl rfl rfl ?_
      refine zs_callVIP hΓ dX5_endWeek_78 (pc' := 81) rfl kX5_128 (con_X5_cells l hTw (by rw [RW, r0, r1]; exact hw9)) (tw_t hTw) rfl rfl rfl (Nat.le_of_ble_eq_true rfl) (by omega) (by decide) (by omega) (by omega) ?_ (fun _ _ q _ => False.elim q)
      rw [r0, r1]
      refine zs_icmpge hΓ dX5_endWeek_81 (tgt := 97) (by decide) (pc' := 84) rfl (fun c_81 => ?_) (fun c_81 => ?_)
      · exact zs_vret hΓ dX5_endWeek_97 rfl (by omega) (by omega) (⟨rfl, hS, by rw [hr, show i = R 0 * R 1 by omega]; exact hend⟩)
      · refine zs_aload_n hΓ dX5_endWeek_84 (pc' := 85) rfl rfl rfl ?_
        refine zs_iload_n hΓ dX5_endWeek_85 (pc' := 86) rfl rfl rfl ?_
        refine zs_iconst hΓ dX5_endWeek_86 (pc' := 87) rfl ⟨by decide, by decide⟩ ?_
        refine zs_iconst hΓ dX5_endWeek_87 (pc' := 88) rfl ⟨by decide, by decide⟩ ?_
        refine zs_callVVE hΓ dX5_endWeek_88 (pc' := 91) rfl kX5_151 (con_X5_set l hTw i 5 0 (by omega) (by decide)) (tw_t hTw) rfl rfl rfl (Nat.le_of_ble_eq_true rfl) (by omega) (by decide) (by omega) (by omega) ?_ (fun _ _ q _ => False.elim q)
        refine zs_iinc hΓ dX5_endWeek_91 (pc' := 94) rfl (L' := [some (zR _), some (zI _), none, none]) rfl (by unfold inI; omega) (by decide) rfl rfl ?_
        refine zs_goto hΓ dX5_endWeek_94 (tgt := 76) (by decide) ?_
        exact ih (i + 1) _ (by omega) (hS.set (Or.inl rfl)) (by rw [gI_up, hr]; refine mapC_s h8.1 (fun w w1 w2 => ?_) (fun j hj => upR_n _ _ (by omega)); rw [f2e]; by_cases c : w = 5; rw [c, upR_s, if_pos rfl]; rw [upR_n _ _ (by omega), if_neg c]; exact mapC_cel' h8.1 (Int.le_refl i) (by omega)) (by omega)
  have lp1 : ∀ (n9 : Nat) (i : Int) (h' : zH), (0 ≤ i ∧ i ≤ R 0 * R 1) → (Same (fun a _ => a = (1, 5) ∨ a = (1, 33)) h h') → (gI h' (1, 5) = mapC i f1 R) → (R 0 * R 1 - i < n9) → SS Γ 2 [some (zR (some (1, 0))), some (zI i), none, none] [] h' 0 0 := by
    intro n9
    induction n9 with
    | zero => intro i h' h8 hS hr hm9; exact absurd hm9 (by omega)
    | succ n9 ih =>
      intro i h' h8 hS hr hm9
      have hTw := hTw0.same hS
      have r0 : gI h' (1, 5) 0 = R 0 := by rw [hr, mapC_lo (by decide)]
      have r1 : gI h' (1, 5) 1 = R 1 := by rw [hr, mapC_lo (by decide)]
      have hcel : ∀ w, 0 ≤ w → w < 7 → cel (gI h' (1, 5)) i w = cel R i w := fun w w1 w2 => by rw [hr]; exact mapC_cel' h8.1 (Int.le_refl i) ⟨w1, w2⟩
      have e28 : gI h' (1, 0) 28 = b := (hS.2.2 _ _ (by rintro (z | z) <;> exact n1 (by decide) z)).trans T.b28
      have e29 : gI h' (1, 0) 29 = mu := (hS.2.2 _ _ (by rintro (z | z) <;> exact n1 (by decide) z)).trans T.b29
      have hX := hT0.same hS (fun k j k1 k2 => by rintro (z | z) <;> exact n1 (by omega) z)
      have hfr := txFirst_r (A := sA R b mu i) (kd := 1) (usual := 10) (by decide) tx0 hT0.wf
      refine zs_iload_n hΓ dX5_endWeek_2 (pc' := 3) rfl rfl rfl ?_
      refine zs_aload_n hΓ dX5_endWeek_3 (pc' := 4) rfl rfl rfl ?_
      refine zs_callVIP hΓ dX5_endWeek_4 (pc' := 7) rfl kX5_128 (con_X5_cells l hTw (by rw [RW, r0, r1]; exact hw9)) (tw_t hTw) rfl rfl rfl (Nat.le_of_ble_eq_true rfl) (by omega) (by decide) (by omega) (by omega) ?_ (fun _ _ q _ => False.elim q)
      rw [r0, r1]
      refine zs_icmpge hΓ dX5_endWeek_7 (tgt := 74) (by decide) (pc' := 10) rfl (fun c_7 => ?_) (fun c_7 => ?_)
      · refine zs_iconst hΓ dX5_endWeek_74 (pc' := 75) rfl ⟨by decide, by decide⟩ ?_
        refine zs_istore_n hΓ dX5_endWeek_75 (pc' := 76) rfl (L' := [some (zR _), some (zI _), none, none]) rfl (by decide) rfl rfl ?_
        exact lp2 257 0 _ (by omega) hS (by rw [mapC_0, hr, show i = R 0 * R 1 by omega]) (by omega)
      · have hcl := hok.cl i h8.1 (by omega)
        refine zs_aload_n hΓ dX5_endWeek_10 (pc' := 11) rfl rfl rfl ?_
        refine zs_iload_n hΓ dX5_endWeek_11 (pc' := 12) rfl rfl rfl ?_
        refine zs_iconst hΓ dX5_endWeek_12 (pc' := 13) rfl ⟨by decide, by decide⟩ ?_
        refine zs_callVIP hΓ dX5_endWeek_13 (pc' := 16) rfl kX5_136 (con_X5_of l hTw i 3 (by omega) (by decide)) (tw_t hTw) rfl rfl rfl (Nat.le_of_ble_eq_true rfl) (by omega) (by decide) (by omega) (by omega) ?_ (fun _ _ q _ => False.elim q)
        refine zs_eqI (hcel 3 (by decide) (by decide)) ?_
        refine zs_aload_n hΓ dX5_endWeek_16 (pc' := 17) rfl rfl rfl ?_
        refine zs_iconst hΓ dX5_endWeek_17 (pc' := 18) rfl ⟨by decide, by decide⟩ ?_
        refine zs_iload_n hΓ dX5_endWeek_18 (pc' := 19) rfl rfl rfl ?_
        refine zs_bipush hΓ dX5_endWeek_19 (pc' := 21) rfl ⟨by decide, by decide⟩ ?_
        refine zs_callVI hΓ dX5_endWeek_21 (pc' := 24) rfl kX5_402 (con_X5_first l hTw 1 i 10 tx0 hX (by omega)) (tw_t hTw) rfl rfl rfl (Nat.le_of_ble_eq_true rfl) (by omega) (by decide) (by omega) (by omega) (fun x_21 h_21 q_21 k_21 => ?_) (fun _ _ q _ => False.elim q)
        obtain ⟨rfl, q9⟩ := q_21
        rw [e28, e29, sA_congr hcel]
        have hS := hS.tr (q9.mono fun _ _ z => Or.inr z)
        have hTw := hTw.same q9
        have hr9 : gI h_21 (1, 5) = mapC i f1 R := (q9.row fun _ => n1 (by decide)).trans hr
        refine zs_isub hΓ dX5_endWeek_24 (pc' := 25) rfl (by unfold inI; omega) ?_
        refine zs_istore_n hΓ dX5_endWeek_25 (pc' := 26) rfl (L' := [some (zR _), some (zI _), some (zI _), none]) rfl (by decide) rfl rfl ?_
        refine zs_aload_n hΓ dX5_endWeek_26 (pc' := 27) rfl rfl rfl ?_
        refine zs_iload_n hΓ dX5_endWeek_27 (pc' := 28) rfl rfl rfl ?_
        refine zs_iconst hΓ dX5_endWeek_28 (pc' := 29) rfl ⟨by decide, by decide⟩ ?_
        refine zs_callVIP hΓ dX5_endWeek_29 (pc' := 32) rfl kX5_136 (con_X5_of l hTw i 4 (by omega) (by decide)) (tw_t hTw) rfl rfl rfl (Nat.le_of_ble_eq_true rfl) (by omega) (by decide) (by omega) (by omega) ?_ (fun _ _ q _ => False.elim q)
        refine zs_eqI (y := cel R i 4) (by rw [hr9]; exact mapC_cel' h8.1 (Int.le_refl i) (by decide)) ?_
        refine zs_aload_n hΓ dX5_endWeek_32 (pc' := 33) rfl rfl rfl ?_
        refine zs_geti hΓ dX5_endWeek_33 (pc' := 36) rfl fX5_80 (i9 := 30) rfl rfl (tw_t hTw) ?_
        refine zs_eqI (y := dry) ((hS.2.2 _ _ (by rintro (z | z) <;> exact n1 (by decide) z)).trans hd) ?_
        refine zs_isub hΓ dX5_endWeek_36 (pc' := 37) rfl (by unfold inI; omega) ?_
        refine zs_istore_n hΓ dX5_endWeek_37 (pc' := 38) rfl (L' := [some (zR _), some (zI _), some (zI _), some (zI _)]) rfl (by decide) rfl rfl ?_
        refine zs_aload_n hΓ dX5_endWeek_38 (pc' := 39) rfl rfl rfl ?_
        refine zs_iload_n hΓ dX5_endWeek_39 (pc' := 40) rfl rfl rfl ?_
        refine zs_iconst hΓ dX5_endWeek_40 (pc' := 41) rfl ⟨by decide, by decide⟩ ?_
        refine zs_iload_n hΓ dX5_endWeek_41 (pc' := 42) rfl rfl rfl ?_
        refine zs_ifge hΓ dX5_endWeek_42 (tgt := 49) (by decide) (pc' := 45) rfl (fun c_42 => ?_) (fun c_42 => ?_)
        · refine zs_iload_n hΓ dX5_endWeek_49 (pc' := 50) rfl rfl rfl ?_
          refine zs_eqI (y := f1 i 3) (by rw [f1e, if_pos rfl]; first | rw [if_neg (by omega)] | rw [if_pos (by omega)]) ?_
          refine zs_callVVE hΓ dX5_endWeek_50 (pc' := 53) rfl kX5_151 (con_X5_set l (by exact hTw) i 3 _ (by omega) (by decide)) (tw_t hTw) rfl rfl rfl (Nat.le_of_ble_eq_true rfl) (by omega) (by decide) (by omega) (by omega) ?_ (fun _ _ q _ => False.elim q)
          refine zs_aload_n hΓ dX5_endWeek_53 (pc' := 54) rfl rfl rfl ?_
          refine zs_iload_n hΓ dX5_endWeek_54 (pc' := 55) rfl rfl rfl ?_
          refine zs_iconst hΓ dX5_endWeek_55 (pc' := 56) rfl ⟨by decide, by decide⟩ ?_
          refine zs_iload_n hΓ dX5_endWeek_56 (pc' := 57) rfl rfl rfl ?_
          refine zs_ifge hΓ dX5_endWeek_57 (tgt := 64) (by decide) (pc' := 60) rfl (fun c_57 => ?_) (fun c_57 => ?_)
          · refine zs_iload_n hΓ dX5_endWeek_64 (pc' := 65) rfl rfl rfl ?_
            refine zs_eqI (y := f1 i 4) (by rw [f1e, if_neg (by decide), if_pos rfl]; first | rw [if_neg (by omega)] | rw [if_pos (by omega)]) ?_
            refine zs_callVVE hΓ dX5_endWeek_65 (pc' := 68) rfl kX5_151 (con_X5_set l (by exact hTw) i 4 _ (by omega) (by decide)) (tw_t hTw) rfl rfl rfl (Nat.le_of_ble_eq_true rfl) (by omega) (by decide) (by omega) (by omega) ?_ (fun _ _ q _ => False.elim q)
            refine zs_iinc hΓ dX5_endWeek_68 (pc' := 71) rfl (L' := [some (zR _), some (zI _), some (zI _), some (zI _)]) rfl (by unfold inI; omega) (by decide) rfl rfl ?_
            refine zs_goto hΓ dX5_endWeek_71 (tgt := 2) (by decide) ?_
            refine zs_drop 2 (L' := [some (zR _), some (zI _), none, some (zI _)]) rfl ?_
            refine zs_drop 3 (L' := [some (zR _), some (zI _), none, none]) rfl ?_
            exact ih (i + 1) _ (by omega) ((hS.set (Or.inl rfl)).set (Or.inl rfl)) (by rw [gI_up, gI_up, hr9]; refine mapC_s h8.1 (fun w w1 w2 => ?_) (fun j hj => by rw [upR_n _ _ (by omega), upR_n _ _ (by omega)]); by_cases c : w = 4; rw [c, upR_s]; rw [upR_n _ _ (by omega)]; by_cases c3 : w = 3; rw [c3, upR_s]; rw [upR_n _ _ (by omega), f1e, if_neg c3, if_neg c]; exact mapC_cel' h8.1 (Int.le_refl i) (by omega)) (by omega)
          · refine zs_iconst hΓ dX5_endWeek_60 (pc' := 61) rfl ⟨by decide, by decide⟩ ?_
            refine zs_goto hΓ dX5_endWeek_61 (tgt := 65) (by decide) ?_
            refine zs_eqI (y := f1 i 4) (by rw [f1e, if_neg (by decide), if_pos rfl]; first | rw [if_neg (by omega)] | rw [if_pos (by omega)]) ?_
            refine zs_callVVE hΓ dX5_endWeek_65 (pc' := 68) rfl kX5_151 (con_X5_set l (by exact hTw) i 4 _ (by omega) (by decide)) (tw_t hTw) rfl rfl rfl (Nat.le_of_ble_eq_true rfl) (by omega) (by decide) (by omega) (by omega) ?_ (fun _ _ q _ => False.elim q)
            refine zs_iinc hΓ dX5_endWeek_68 (pc' := 71) rfl (L' := [some (zR _), some (zI _), some (zI _), some (zI _)]) rfl (by unfold inI; omega) (by decide) rfl rfl ?_
            refine zs_goto hΓ dX5_endWeek_71 (tgt := 2) (by decide) ?_
            refine zs_drop 2 (L' := [some (zR _), some (zI _), none, some (zI _)]) rfl ?_
            refine zs_drop 3 (L' := [some (zR _), some (zI _), none, none]) rfl ?_
            exact ih (i + 1) _ (by omega) ((hS.set (Or.inl rfl)).set (Or.inl rfl)) (by rw [gI_up, gI_up, hr9]; refine mapC_s h8.1 (fun w w1 w2 => ?_) (fun j hj => by rw [upR_n _ _ (by omega), upR_n _ _ (by omega)]); by_cases c : w = 4; rw [c, upR_s]; rw [upR_n _ _ (by omega)]; by_cases c3 : w = 3; rw [c3, upR_s]; rw [upR_n _ _ (by omega), f1e, if_neg c3, if_neg c]; exact mapC_cel' h8.1 (Int.le_refl i) (by omega)) (by omega)
        · refine zs_iconst hΓ dX5_endWeek_45 (pc' := 46) rfl ⟨by decide, by decide⟩ ?_
          refine zs_goto hΓ dX5_endWeek_46 (tgt := 50) (by decide) ?_
          refine zs_eqI (y := f1 i 3) (by rw [f1e, if_pos rfl]; first | rw [if_neg (by omega)] | rw [if_pos (by omega)]) ?_
          refine zs_callVVE hΓ dX5_endWeek_50 (pc' := 53) rfl kX5_151 (con_X5_set l (by exact hTw) i 3 _ (by omega) (by decide)) (tw_t hTw) rfl rfl rfl (Nat.le_of_ble_eq_true rfl) (by omega) (by decide) (by omega) (by omega) ?_ (fun _ _ q _ => False.elim q)
          refine zs_aload_n hΓ dX5_endWeek_53 (pc' := 54) rfl rfl rfl ?_
          refine zs_iload_n hΓ dX5_endWeek_54 (pc' := 55) rfl rfl rfl ?_
          refine zs_iconst hΓ dX5_endWeek_55 (pc' := 56) rfl ⟨by decide, by decide⟩ ?_
          refine zs_iload_n hΓ dX5_endWeek_56 (pc' := 57) rfl rfl rfl ?_
          refine zs_ifge hΓ dX5_endWeek_57 (tgt := 64) (by decide) (pc' := 60) rfl (fun c_57 => ?_) (fun c_57 => ?_)
          · refine zs_iload_n hΓ dX5_endWeek_64 (pc' := 65) rfl rfl rfl ?_
            refine zs_eqI (y := f1 i 4) (by rw [f1e, if_neg (by decide), if_pos rfl]; first | rw [if_neg (by omega)] | rw [if_pos (by omega)]) ?_
            refine zs_callVVE hΓ dX5_endWeek_65 (pc' := 68) rfl kX5_151 (con_X5_set l (by exact hTw) i 4 _ (by omega) (by decide)) (tw_t hTw) rfl rfl rfl (Nat.le_of_ble_eq_true rfl) (by omega) (by decide) (by omega) (by omega) ?_ (fun _ _ q _ => False.elim q)
            refine zs_iinc hΓ dX5_endWeek_68 (pc' := 71) rfl (L' := [some (zR _), some (zI _), some (zI _), some (zI _)]) rfl (by unfold inI; omega) (by decide) rfl rfl ?_
            refine zs_goto hΓ dX5_endWeek_71 (tgt := 2) (by decide) ?_
            refine zs_drop 2 (L' := [some (zR _), some (zI _), none, some (zI _)]) rfl ?_
            refine zs_drop 3 (L' := [some (zR _), some (zI _), none, none]) rfl ?_
            exact ih (i + 1) _ (by omega) ((hS.set (Or.inl rfl)).set (Or.inl rfl)) (by rw [gI_up, gI_up, hr9]; refine mapC_s h8.1 (fun w w1 w2 => ?_) (fun j hj => by rw [upR_n _ _ (by omega), upR_n _ _ (by omega)]); by_cases c : w = 4; rw [c, upR_s]; rw [upR_n _ _ (by omega)]; by_cases c3 : w = 3; rw [c3, upR_s]; rw [upR_n _ _ (by omega), f1e, if_neg c3, if_neg c]; exact mapC_cel' h8.1 (Int.le_refl i) (by omega)) (by omega)
          · refine zs_iconst hΓ dX5_endWeek_60 (pc' := 61) rfl ⟨by decide, by decide⟩ ?_
            refine zs_goto hΓ dX5_endWeek_61 (tgt := 65) (by decide) ?_
            refine zs_eqI (y := f1 i 4) (by rw [f1e, if_neg (by decide), if_pos rfl]; first | rw [if_neg (by omega)] | rw [if_pos (by omega)]) ?_
            refine zs_callVVE hΓ dX5_endWeek_65 (pc' := 68) rfl kX5_151 (con_X5_set l (by exact hTw) i 4 _ (by omega) (by decide)) (tw_t hTw) rfl rfl rfl (Nat.le_of_ble_eq_true rfl) (by omega) (by decide) (by omega) (by omega) ?_ (fun _ _ q _ => False.elim q)
            refine zs_iinc hΓ dX5_endWeek_68 (pc' := 71) rfl (L' := [some (zR _), some (zI _), some (zI _), some (zI _)]) rfl (by unfold inI; omega) (by decide) rfl rfl ?_
            refine zs_goto hΓ dX5_endWeek_71 (tgt := 2) (by decide) ?_
            refine zs_drop 2 (L' := [some (zR _), some (zI _), none, some (zI _)]) rfl ?_
            refine zs_drop 3 (L' := [some (zR _), some (zI _), none, none]) rfl ?_
            exact ih (i + 1) _ (by omega) ((hS.set (Or.inl rfl)).set (Or.inl rfl)) (by rw [gI_up, gI_up, hr9]; refine mapC_s h8.1 (fun w w1 w2 => ?_) (fun j hj => by rw [upR_n _ _ (by omega), upR_n _ _ (by omega)]); by_cases c : w = 4; rw [c, upR_s]; rw [upR_n _ _ (by omega)]; by_cases c3 : w = 3; rw [c3, upR_s]; rw [upR_n _ _ (by omega), f1e, if_neg c3, if_neg c]; exact mapC_cel' h8.1 (Int.le_refl i) (by omega)) (by omega)
  refine zs_iconst hΓ dX5_endWeek_0 (pc' := 1) rfl ⟨by decide, by decide⟩ ?_
  refine zs_istore_n hΓ dX5_endWeek_1 (pc' := 2) rfl (L' := [some (zR _), some (zI _), none, none]) rfl (by decide) rfl rfl ?_
  exact lp1 257 0 h (by omega) (Same.rf _ _) (by rw [mapC_0]; exact hR) (by omega)
theorem con_X5_tick (l : Launch) {h : zH} {B b mu : Int} {tx0 : zTx} {hs : Int → zTx} (T : TwK h B b mu tx0 hs) (hB : B ≤ 800000000) : Con l mX5_tick 9 0 0 [zR (some (1, 0))] h (rV fun h' => gI h' (1, 5) = sTick b mu tx0 hs (gI h (1, 5)) ∧ TkR h h') zNo := by
  refine Con.ofS (by decide +kernel) (Nat.le_of_ble_eq_true rfl) fun Γ hΓ hno hwf hav => ?_
  have hΓ : Ctx Γ l cX5_tick RX5 "tick" 4 (Option.none : Option Jvm.ClassFile.FieldType) _ _ 9 _ _ := hΓ
  show SS Γ 0 [some (zR _), none, none, none] [] _ 0 0
  have hok := T.ok
  generalize hR : gI h (1, 5) = R at *
  have hwm := hok.hd.wm
  have hx := T.t0.wf
  have fin : ∀ (h' : zH) (k : Int), TwT h' → TkR h h' → gI h' (1, 5) = sWalks b mu tx0 hs 61 0 (sSpawn R (R 12).toNat) → RCt (B + 99) (gI h' (1, 5)) → gI h' (1, 5) 157 ≤ k → SS Γ 202 [some (zR (some (1, 0))), some (zI k), none, none] [] h' 0 0 := by
    intro h' k hTw hTk hr hct hk
    unfold RCt at hct
    refine zs_iload_n hΓ dX5_tick_202 (pc' := 203) rfl rfl rfl ?_
    refine zs_aload_n hΓ dX5_tick_203 (pc' := 204) rfl rfl rfl ?_
    refine zs_getrE hΓ dX5_tick_204 (pc' := 207) rfl fX5_30 (i9 := 5) rfl rfl (tw_t hTw) (tw_p5 hTw) ?_
    refine zs_sipush hΓ dX5_tick_207 (pc' := 210) rfl ⟨by decide, by decide⟩ ?_
    refine zs_iald hΓ dX5_tick_210 (pc' := 211) rfl (tw_a5 hTw) (by omega) (by omega) ?_
    refine zs_icmpge hΓ dX5_tick_211 (tgt := 243) (by decide) (pc' := 214) rfl (fun c_211 => ?_) (fun c_211 => False.elim (absurd c_211 (by omega)))
    refine zs_aload_n hΓ dX5_tick_243 (pc' := 244) rfl rfl rfl ?_
    refine zs_getrE hΓ dX5_tick_244 (pc' := 247) rfl fX5_30 (i9 := 5) rfl rfl (tw_t hTw) (tw_p5 hTw) ?_
    refine zs_sipush hΓ dX5_tick_247 (pc' := 250) rfl ⟨by decide, by decide⟩ ?_
    refine zs_dup2 hΓ dX5_tick_250 (pc' := 251) rfl  ?_
    refine zs_iald hΓ dX5_tick_251 (pc' := 252) rfl (tw_a5 hTw) (by omega) (by omega) ?_
    refine zs_iconst hΓ dX5_tick_252 (pc' := 253) rfl ⟨by decide, by decide⟩ ?_
    refine zs_iadd hΓ dX5_tick_253 (pc' := 254) rfl (by unfold inI; omega) ?_
    refine zs_iast hΓ dX5_tick_254 (pc' := 255) rfl (tw_a5 hTw) (show (0 : Int) ≤ 1 by decide) (by omega) (by omega) ?_
    exact zs_vret hΓ dX5_tick_255 rfl (by omega) (by omega) (⟨rfl, by rw [gI_up, hr]; rfl, hTk.tr (TkR.small ((Same.rf _ _).set (Or.inl rfl)) (fun j hj => by rw [gI_up]; exact upR_n _ _ (by omega)) (by rw [gI_ot _ _ _ (n1 (by decide))]) (by rw [gI_up, upR_n _ _ (by decide)]; exact Int.le_refl _) (fun y1 y2 => by rw [gI_up, upR_n _ _ (by decide), gI_ot _ _ _ (n1 (by decide))]; omega))⟩)
  have lp2 : ∀ (n : Nat) (k : Int) (h' : zH) (B' : Int), TwK h' B' b mu tx0 hs → B' + n ≤ B + 99 → 0 ≤ k → gI h' (1, 5) 157 - k ≤ n → TkR h h' → sWalks b mu tx0 hs n k (gI h' (1, 5)) = sWalks b mu tx0 hs 61 0 (sSpawn R (R 12).toNat) → SS Γ 202 [some (zR (some (1, 0))), some (zI k), none, none] [] h' 0 0 := by
    intro n
    induction n with
    | zero =>
      intro k h' B' T' hB' hk hn hTk hrun
      exact fin h' k T'.tw hTk hrun (T'.ok.mono (show B' ≤ B + 99 by omega)).ct (by omega)
    | succ n ih =>
      intro k h' B' T' hB' hk hn hTk hrun
      have hTw := T'.tw
      have hm := T'.ok.wk.1
      by_cases c : k < gI h' (1, 5) 157
      · have hs9 : sWalks b mu tx0 hs (n + 1) k (gI h' (1, 5)) = zIf (sGoes (gI h' (1, 5)) b mu tx0 hs (158 + 6 * k)).2 (sWalks b mu tx0 hs n (k + 1) (sGoes (gI h' (1, 5)) b mu tx0 hs (158 + 6 * k)).1) (sWalks b mu tx0 hs n k (sLeave (sGoes (gI h' (1, 5)) b mu tx0 hs (158 + 6 * k)).1 k)) := by
          show (if k < gI h' (1, 5) 157 then _ else _) = _
          rw [if_pos c]
        rw [hs9] at hrun
        obtain ⟨g1, g2⟩ := T'.ok.goes (b := b) (mu := mu) (hs := hs) hk c hx
        have g7 : (sGoes (gI h' (1, 5)) b mu tx0 hs (158 + 6 * k)).1 157 = gI h' (1, 5) 157 := sGoes_lo T'.ok hk c (by decide)
        refine zs_iload_n hΓ dX5_tick_202 (pc' := 203) rfl rfl rfl ?_
        refine zs_aload_n hΓ dX5_tick_203 (pc' := 204) rfl rfl rfl ?_
        refine zs_getrE hΓ dX5_tick_204 (pc' := 207) rfl fX5_30 (i9 := 5) rfl rfl (tw_t hTw) (tw_p5 hTw) ?_
        refine zs_sipush hΓ dX5_tick_207 (pc' := 210) rfl ⟨by decide, by decide⟩ ?_
        refine zs_iald hΓ dX5_tick_210 (pc' := 211) rfl (tw_a5 hTw) (by omega) (by omega) ?_
        refine zs_icmpge hΓ dX5_tick_211 (tgt := 243) (by decide) (pc' := 214) rfl (fun c_211 => False.elim (absurd c_211 (by omega))) (fun c_211 => ?_)
        refine zs_aload_n hΓ dX5_tick_214 (pc' := 215) rfl rfl rfl ?_
        refine zs_sipush hΓ dX5_tick_215 (pc' := 218) rfl ⟨by decide, by decide⟩ ?_
        refine zs_bipush hΓ dX5_tick_218 (pc' := 220) rfl ⟨by decide, by decide⟩ ?_
        refine zs_iload_n hΓ dX5_tick_220 (pc' := 221) rfl rfl rfl ?_
        refine zs_imul hΓ dX5_tick_221 (pc' := 222) rfl (by unfold inI; omega) ?_
        refine zs_iadd hΓ dX5_tick_222 (pc' := 223) rfl (by unfold inI; omega) ?_
        refine zs_callVI hΓ dX5_tick_223 (pc' := 226) rfl kX5_408 (con_X5_goes l T' (by omega) k hk c) (tw_t hTw) rfl rfl rfl (Nat.le_of_ble_eq_true rfl) (by omega) (by decide) (by omega) (by omega) (fun x_223 h_223 q_223 k_223 => ?_) (fun _ _ q _ => False.elim q)
        obtain ⟨rfl, p1, p2⟩ := q_223
        have hTw := hTw.same p2.s
        refine zs_ifeq hΓ dX5_tick_226 (tgt := 235) (by decide) (pc' := 229) rfl (fun c_226 => ?_) (fun c_226 => ?_)
        · try have c_226 := iB_eq c_226
          refine zs_aload_n hΓ dX5_tick_235 (pc' := 236) rfl rfl rfl ?_
          refine zs_iload_n hΓ dX5_tick_236 (pc' := 237) rfl rfl rfl ?_
          refine zs_callVV hΓ dX5_tick_237 (pc' := 240) rfl kX5_411 (con_X5_leave l (B := B' + 1) hTw (by rw [p1]; exact g1) hk (by rw [p1, g7]; exact c)) (tw_t hTw) rfl rfl rfl (Nat.le_of_ble_eq_true rfl) (by omega) (by decide) (by omega) (by omega) (fun h_237 q_237 k_237 => ?_) (fun _ _ q _ => False.elim q)
          obtain ⟨p3, p4⟩ := q_237
          rw [zIf_f c_226] at hrun
          have lo : ∀ j, 518 ≤ j → gI h_237 (1, 5) j = gI h_223 (1, 5) j := fun j hj => by rw [p4]; unfold sLeave; rw [if_neg (by omega), if_neg (by rw [p1, g7]; omega), if_neg (by rw [p1, g7]; omega)]
          have p5 : TkR h_223 h_237 := TkR.small (p3.mono fun _ _ z => Or.inl z) (fun j hj => lo j (by omega)) (p3.2.2 _ _ (n1 (by decide))) (by rw [lo 519 (by decide)]; exact Int.le_refl _) (fun _ _ => by rw [lo 519 (by decide), p3.2.2 _ _ (n1 (by decide))]; omega)
          refine zs_goto hΓ dX5_tick_240 (tgt := 202) (by decide) ?_
          exact ih k _ (B' + 1) (T'.same (p2.s.tr p5.s) (by rw [p4, p1]; exact g1.leave hk (by rw [g7]; exact c))) (by omega) hk (by rw [p4, p1]; show sLeave _ k 157 - k ≤ _; unfold sLeave; rw [if_pos rfl, g7]; omega) ((hTk.tr p2).tr p5) (by rw [p4, p1]; exact hrun)
        · try have c_226 := iB_ne c_226
          refine zs_iinc hΓ dX5_tick_229 (pc' := 232) rfl (L' := [some (zR _), some (zI _), none, none]) rfl (by unfold inI; omega) (by decide) rfl rfl ?_
          refine zs_goto hΓ dX5_tick_232 (tgt := 202) (by decide) ?_
          rw [zIf_t c_226] at hrun; exact ih (k + 1) _ (B' + 1) (T'.same p2.s (by rw [p1]; exact g2 c_226)) (by omega) (by omega) (by rw [p1, g7]; omega) (hTk.tr p2) (by rw [p1]; exact hrun)
      · exact fin h' k hTw hTk (by rw [← hrun]; show _ = if k < gI h' (1, 5) 157 then _ else _; rw [if_neg c]) (T'.ok.mono (show B' ≤ B + 99 by omega)).ct (by omega)
  have lp1 : ∀ (m : Nat) (n : Nat) (h' : zH), (n : Int) + m = R 12 → Same (fun a _ => a = (1, 5)) h h' → gI h' (1, 5) = sSpawn R n → SS Γ 2 [some (zR (some (1, 0))), some (zI n), none, none] [] h' 0 0 := by
    intro m
    induction m with
    | zero =>
      intro n h' hn hS hr
      have hTw := T.tw.same hS
      obtain ⟨s1, s2, s3, s4, s5⟩ := hok.spawn n (by omega)
      have e12 : gI h' (1, 5) 12 = R 12 := by rw [hr]; exact s2 12 (by decide)
      have hm := s1.wk.1
      refine zs_iload_n hΓ dX5_tick_2 (pc' := 3) rfl rfl rfl ?_
      refine zs_aload_n hΓ dX5_tick_3 (pc' := 4) rfl rfl rfl ?_
      refine zs_getrE hΓ dX5_tick_4 (pc' := 7) rfl fX5_30 (i9 := 5) rfl rfl (tw_t hTw) (tw_p5 hTw) ?_
      refine zs_bipush hΓ dX5_tick_7 (pc' := 9) rfl ⟨by decide, by decide⟩ ?_
      refine zs_iald hΓ dX5_tick_9 (pc' := 10) rfl (tw_a5 hTw) (by omega) (by omega) ?_
      refine zs_eqI e12 ?_
      refine zs_icmpge hΓ dX5_tick_10 (tgt := 200) (by decide) (pc' := 13) rfl (fun c_10 => ?_) (fun c_10 => False.elim (absurd c_10 (by omega)))
      refine zs_iconst hΓ dX5_tick_200 (pc' := 201) rfl ⟨by decide, by decide⟩ ?_
      refine zs_istore_n hΓ dX5_tick_201 (pc' := 202) rfl (L' := [some (zR _), some (zI _), none, none]) rfl (by decide) rfl rfl ?_
      exact lp2 61 0 h' (B + n) (T.same (hS.mono fun _ _ z => Or.inl z) (by rw [hr]; exact s1)) (by omega) (by decide) (by rw [hr]; omega) (TkR.small (hS.mono fun _ _ z => Or.inl z) (fun j hj => by rw [hr, hR]; exact s4 j hj) (hS.2.2 _ _ (n1 (by decide))) (by rw [hr, hR, s5]; exact Int.le_refl _) (fun _ _ => by rw [hr, hR, s5, hS.2.2 _ _ (n1 (by decide))]; omega)) (by rw [hr, show n = (R 12).toNat by omega])
    | succ m ih =>
      intro n h' hn hS hr
      have hTw := T.tw.same hS
      obtain ⟨s1, s2, s3, s4, s5⟩ := hok.spawn n (by omega)
      have ih0 : ∀ h'', Same (fun a _ => a = (1, 5)) h h'' → gI h'' (1, 5) = sSpawn1 (sSpawn R n) n → SS Γ 2 [some (zR (some (1, 0))), some (zI ((n : Int) + 1)), none, none] [] h'' 0 0 := fun h'' a1 a2 => by
        have := ih (n + 1) h'' (by omega) a1 a2
        rw [show ((n + 1 : Nat) : Int) = (n : Int) + 1 by omega] at this
        exact this
      generalize hRn : sSpawn R n = Rn at *
      have e12 : gI h' (1, 5) 12 = R 12 := by rw [hr]; exact s2 12 (by decide)
      have hm := s1.wk.1
      have hws := s1.hd.ws n (by omega) (by rw [s2 12 (by decide)]; omega)
      have hd9 := s1.hd.d
      have hct := s1.ct
      unfold RCt at hct
      have hno : ¬ sDue Rn n → SS Γ 2 [some (zR (some (1, 0))), some (zI ((n : Int) + 1)), none, none] [] h' 0 0 := fun z => ih0 h' hS (by unfold sSpawn1; rw [zIf_f z]; exact hr)
      refine zs_iload_n hΓ dX5_tick_2 (pc' := 3) rfl rfl rfl ?_
      refine zs_aload_n hΓ dX5_tick_3 (pc' := 4) rfl rfl rfl ?_
      refine zs_getrE hΓ dX5_tick_4 (pc' := 7) rfl fX5_30 (i9 := 5) rfl rfl (tw_t hTw) (tw_p5 hTw) ?_
      refine zs_bipush hΓ dX5_tick_7 (pc' := 9) rfl ⟨by decide, by decide⟩ ?_
      refine zs_iald hΓ dX5_tick_9 (pc' := 10) rfl (tw_a5 hTw) (by omega) (by omega) ?_
      refine zs_eqI e12 ?_
      refine zs_icmpge hΓ dX5_tick_10 (tgt := 200) (by decide) (pc' := 13) rfl (fun c_10 => False.elim (absurd c_10 (by omega))) (fun c_10 => ?_)
      refine zs_bipush hΓ dX5_tick_13 (pc' := 15) rfl ⟨by decide, by decide⟩ ?_
      refine zs_bipush hΓ dX5_tick_15 (pc' := 17) rfl ⟨by decide, by decide⟩ ?_
      refine zs_iload_n hΓ dX5_tick_17 (pc' := 18) rfl rfl rfl ?_
      refine zs_imul hΓ dX5_tick_18 (pc' := 19) rfl (by unfold inI; omega) ?_
      refine zs_iadd hΓ dX5_tick_19 (pc' := 20) rfl (by unfold inI; omega) ?_
      refine zs_istore_n hΓ dX5_tick_20 (pc' := 21) rfl (L' := [some (zR _), some (zI _), some (zI _), none]) rfl (by decide) rfl rfl ?_
      refine zs_aload_n hΓ dX5_tick_21 (pc' := 22) rfl rfl rfl ?_
      refine zs_getrE hΓ dX5_tick_22 (pc' := 25) rfl fX5_30 (i9 := 5) rfl rfl (tw_t hTw) (tw_p5 hTw) ?_
      refine zs_iload_n hΓ dX5_tick_25 (pc' := 26) rfl rfl rfl ?_
      refine zs_iconst hΓ dX5_tick_26 (pc' := 27) rfl ⟨by decide, by decide⟩ ?_
      refine zs_iadd hΓ dX5_tick_27 (pc' := 28) rfl (by unfold inI; omega) ?_
      refine zs_iald hΓ dX5_tick_28 (pc' := 29) rfl (tw_a5 hTw) (by omega) (by omega) ?_
      refine zs_eqI (congrFun hr _) ?_
      refine zs_ifeq hΓ dX5_tick_29 (tgt := 194) (by decide) (pc' := 32) rfl (fun c_29 => ?_) (fun c_29 => ?_)
      · refine zs_iinc hΓ dX5_tick_194 (pc' := 197) rfl (L' := [some (zR _), some (zI _), some (zI _), none]) rfl (by unfold inI; omega) (by decide) rfl rfl ?_
        refine zs_goto hΓ dX5_tick_197 (tgt := 2) (by decide) ?_
        refine zs_drop 2 (L' := [some (zR _), some (zI _), none, none]) rfl ?_
        exact hno (fun z => absurd c_29 z.1)
      · refine zs_aload_n hΓ dX5_tick_32 (pc' := 33) rfl rfl rfl ?_
        refine zs_getrE hΓ dX5_tick_33 (pc' := 36) rfl fX5_30 (i9 := 5) rfl rfl (tw_t hTw) (tw_p5 hTw) ?_
        refine zs_sipush hΓ dX5_tick_36 (pc' := 39) rfl ⟨by decide, by decide⟩ ?_
        refine zs_iald hΓ dX5_tick_39 (pc' := 40) rfl (tw_a5 hTw) (by omega) (by omega) ?_
        refine zs_eqI (congrFun hr _) ?_
        refine zs_aload_n hΓ dX5_tick_40 (pc' := 41) rfl rfl rfl ?_
        refine zs_getrE hΓ dX5_tick_41 (pc' := 44) rfl fX5_30 (i9 := 5) rfl rfl (tw_t hTw) (tw_p5 hTw) ?_
        refine zs_iload_n hΓ dX5_tick_44 (pc' := 45) rfl rfl rfl ?_
        refine zs_iconst hΓ dX5_tick_45 (pc' := 46) rfl ⟨by decide, by decide⟩ ?_
        refine zs_iadd hΓ dX5_tick_46 (pc' := 47) rfl (by unfold inI; omega) ?_
        refine zs_iald hΓ dX5_tick_47 (pc' := 48) rfl (tw_a5 hTw) (by omega) (by omega) ?_
        refine zs_eqI (congrFun hr _) ?_
        refine zs_icmplt hΓ dX5_tick_48 (tgt := 194) (by decide) (pc' := 51) rfl (fun c_48 => ?_) (fun c_48 => ?_)
        · refine zs_iinc hΓ dX5_tick_194 (pc' := 197) rfl (L' := [some (zR _), some (zI _), some (zI _), none]) rfl (by unfold inI; omega) (by decide) rfl rfl ?_
          refine zs_goto hΓ dX5_tick_197 (tgt := 2) (by decide) ?_
          refine zs_drop 2 (L' := [some (zR _), some (zI _), none, none]) rfl ?_
          exact hno (fun z => by have := z.2.1; omega)
        · refine zs_aload_n hΓ dX5_tick_51 (pc' := 52) rfl rfl rfl ?_
          refine zs_getrE hΓ dX5_tick_52 (pc' := 55) rfl fX5_30 (i9 := 5) rfl rfl (tw_t hTw) (tw_p5 hTw) ?_
          refine zs_sipush hΓ dX5_tick_55 (pc' := 58) rfl ⟨by decide, by decide⟩ ?_
          refine zs_iald hΓ dX5_tick_58 (pc' := 59) rfl (tw_a5 hTw) (by omega) (by omega) ?_
          refine zs_eqI (congrFun hr _) ?_
          refine zs_aload_n hΓ dX5_tick_59 (pc' := 60) rfl rfl rfl ?_
          refine zs_getrE hΓ dX5_tick_60 (pc' := 63) rfl fX5_30 (i9 := 5) rfl rfl (tw_t hTw) (tw_p5 hTw) ?_
          refine zs_iload_n hΓ dX5_tick_63 (pc' := 64) rfl rfl rfl ?_
          refine zs_iconst hΓ dX5_tick_64 (pc' := 65) rfl ⟨by decide, by decide⟩ ?_
          refine zs_iadd hΓ dX5_tick_65 (pc' := 66) rfl (by unfold inI; omega) ?_
          refine zs_iald hΓ dX5_tick_66 (pc' := 67) rfl (tw_a5 hTw) (by omega) (by omega) ?_
          refine zs_eqI (congrFun hr _) ?_
          refine zs_isub hΓ dX5_tick_67 (pc' := 68) rfl (by unfold inI; omega) ?_
          refine zs_aload_n hΓ dX5_tick_68 (pc' := 69) rfl rfl rfl ?_
          refine zs_getrE hΓ dX5_tick_69 (pc' := 72) rfl fX5_30 (i9 := 5) rfl rfl (tw_t hTw) (tw_p5 hTw) ?_
          refine zs_iload_n hΓ dX5_tick_72 (pc' := 73) rfl rfl rfl ?_
          refine zs_iconst hΓ dX5_tick_73 (pc' := 74) rfl ⟨by decide, by decide⟩ ?_
          refine zs_iadd hΓ dX5_tick_74 (pc' := 75) rfl (by unfold inI; omega) ?_
          refine zs_iald hΓ dX5_tick_75 (pc' := 76) rfl (tw_a5 hTw) (by omega) (by omega) ?_
          refine zs_eqI (congrFun hr _) ?_
          refine zs_irem hΓ dX5_tick_76 (pc' := 77) rfl (by omega) (by omega) ?_
          refine zs_ifeq hΓ dX5_tick_77 (tgt := 83) (by decide) (pc' := 80) rfl (fun c_77 => ?_) (fun c_77 => ?_)
          · refine zs_aload_n hΓ dX5_tick_83 (pc' := 84) rfl rfl rfl ?_
            refine zs_getrE hΓ dX5_tick_84 (pc' := 87) rfl fX5_30 (i9 := 5) rfl rfl (tw_t hTw) (tw_p5 hTw) ?_
            refine zs_sipush hΓ dX5_tick_87 (pc' := 90) rfl ⟨by decide, by decide⟩ ?_
            refine zs_iald hΓ dX5_tick_90 (pc' := 91) rfl (tw_a5 hTw) (by omega) (by omega) ?_
            refine zs_eqI (congrFun hr _) ?_
            refine zs_bipush hΓ dX5_tick_91 (pc' := 93) rfl ⟨by decide, by decide⟩ ?_
            refine zs_icmpne hΓ dX5_tick_93 (tgt := 111) (by decide) (pc' := 96) rfl (fun c_93 => ?_) (fun c_93 => ?_)
            · refine zs_sipush hΓ dX5_tick_111 (pc' := 114) rfl ⟨by decide, by decide⟩ ?_
              refine zs_bipush hΓ dX5_tick_114 (pc' := 116) rfl ⟨by decide, by decide⟩ ?_
              refine zs_aload_n hΓ dX5_tick_116 (pc' := 117) rfl rfl rfl ?_
              refine zs_getrE hΓ dX5_tick_117 (pc' := 120) rfl fX5_30 (i9 := 5) rfl rfl (tw_t hTw) (tw_p5 hTw) ?_
              refine zs_sipush hΓ dX5_tick_120 (pc' := 123) rfl ⟨by decide, by decide⟩ ?_
              refine zs_iald hΓ dX5_tick_123 (pc' := 124) rfl (tw_a5 hTw) (by omega) (by omega) ?_
              refine zs_eqI (congrFun hr _) ?_
              refine zs_imul hΓ dX5_tick_124 (pc' := 125) rfl (by unfold inI; omega) ?_
              refine zs_iadd hΓ dX5_tick_125 (pc' := 126) rfl (by unfold inI; omega) ?_
              refine zs_istore_n hΓ dX5_tick_126 (pc' := 127) rfl (L' := [some (zR _), some (zI _), some (zI _), some (zI _)]) rfl (by decide) rfl rfl ?_
              refine zs_aload_n hΓ dX5_tick_127 (pc' := 128) rfl rfl rfl ?_
              refine zs_getrE hΓ dX5_tick_128 (pc' := 131) rfl fX5_30 (i9 := 5) rfl rfl (tw_t hTw) (tw_p5 hTw) ?_
              refine zs_iload_n hΓ dX5_tick_131 (pc' := 132) rfl rfl rfl ?_
              refine zs_aload_n hΓ dX5_tick_132 (pc' := 133) rfl rfl rfl ?_
              refine zs_getrE hΓ dX5_tick_133 (pc' := 136) rfl fX5_30 (i9 := 5) rfl rfl (tw_t hTw) (tw_p5 hTw) ?_
              refine zs_iconst hΓ dX5_tick_136 (pc' := 137) rfl ⟨by decide, by decide⟩ ?_
              refine zs_aload_n hΓ dX5_tick_137 (pc' := 138) rfl rfl rfl ?_
              refine zs_getrE hΓ dX5_tick_138 (pc' := 141) rfl fX5_30 (i9 := 5) rfl rfl (tw_t hTw) (tw_p5 hTw) ?_
              refine zs_iload_n hΓ dX5_tick_141 (pc' := 142) rfl rfl rfl ?_
              refine zs_iald hΓ dX5_tick_142 (pc' := 143) rfl (tw_a5 hTw) (by omega) (by omega) ?_
              refine zs_eqI (congrFun hr _) ?_
              refine zs_iadd hΓ dX5_tick_143 (pc' := 144) rfl (by unfold inI; omega) ?_
              refine zs_iald hΓ dX5_tick_144 (pc' := 145) rfl (tw_a5 hTw) (by omega) (by omega) ?_
              refine zs_eqI (congrFun hr _) ?_
              refine zs_iast hΓ dX5_tick_145 (pc' := 146) rfl (tw_a5 hTw) (show (0 : Int) ≤ 1 by decide) (by omega) (by omega) ?_
              refine zs_aload_n hΓ dX5_tick_146 (pc' := 147) rfl rfl rfl ?_
              refine zs_getrE hΓ dX5_tick_147 (pc' := 150) rfl fX5_30 (i9 := 5) rfl rfl (tw_t hTw) (tw_p5 hTw) ?_
              refine zs_iload_n hΓ dX5_tick_150 (pc' := 151) rfl rfl rfl ?_
              refine zs_iconst hΓ dX5_tick_151 (pc' := 152) rfl ⟨by decide, by decide⟩ ?_
              refine zs_iadd hΓ dX5_tick_152 (pc' := 153) rfl (by unfold inI; omega) ?_
              refine zs_iload_n hΓ dX5_tick_153 (pc' := 154) rfl rfl rfl ?_
              refine zs_iast hΓ dX5_tick_154 (pc' := 155) rfl (tw_a5 hTw) (show (0 : Int) ≤ 1 by decide) (by omega) (by omega) ?_
              refine zs_aload_n hΓ dX5_tick_155 (pc' := 156) rfl rfl rfl ?_
              refine zs_getrE hΓ dX5_tick_156 (pc' := 159) rfl fX5_30 (i9 := 5) rfl rfl (tw_t hTw) (tw_p5 hTw) ?_
              refine zs_iload_n hΓ dX5_tick_159 (pc' := 160) rfl rfl rfl ?_
              refine zs_iconst hΓ dX5_tick_160 (pc' := 161) rfl ⟨by decide, by decide⟩ ?_
              refine zs_iadd hΓ dX5_tick_161 (pc' := 162) rfl (by unfold inI; omega) ?_
              refine zs_iconst hΓ dX5_tick_162 (pc' := 163) rfl ⟨by decide, by decide⟩ ?_
              refine zs_iast hΓ dX5_tick_163 (pc' := 164) rfl (tw_a5 hTw) (show (0 : Int) ≤ 1 by decide) (by omega) (by omega) ?_
              refine zs_aload_n hΓ dX5_tick_164 (pc' := 165) rfl rfl rfl ?_
              refine zs_getrE hΓ dX5_tick_165 (pc' := 168) rfl fX5_30 (i9 := 5) rfl rfl (tw_t hTw) (tw_p5 hTw) ?_
              refine zs_iload_n hΓ dX5_tick_168 (pc' := 169) rfl rfl rfl ?_
              refine zs_iconst hΓ dX5_tick_169 (pc' := 170) rfl ⟨by decide, by decide⟩ ?_
              refine zs_iadd hΓ dX5_tick_170 (pc' := 171) rfl (by unfold inI; omega) ?_
              refine zs_iconst hΓ dX5_tick_171 (pc' := 172) rfl ⟨by decide, by decide⟩ ?_
              refine zs_iast hΓ dX5_tick_172 (pc' := 173) rfl (tw_a5 hTw) (show (0 : Int) ≤ 1 by decide) (by omega) (by omega) ?_
              refine zs_aload_n hΓ dX5_tick_173 (pc' := 174) rfl rfl rfl ?_
              refine zs_getrE hΓ dX5_tick_174 (pc' := 177) rfl fX5_30 (i9 := 5) rfl rfl (tw_t hTw) (tw_p5 hTw) ?_
              refine zs_iload_n hΓ dX5_tick_177 (pc' := 178) rfl rfl rfl ?_
              refine zs_iconst hΓ dX5_tick_178 (pc' := 179) rfl ⟨by decide, by decide⟩ ?_
              refine zs_iadd hΓ dX5_tick_179 (pc' := 180) rfl (by unfold inI; omega) ?_
              refine zs_iconst hΓ dX5_tick_180 (pc' := 181) rfl ⟨by decide, by decide⟩ ?_
              refine zs_iast hΓ dX5_tick_181 (pc' := 182) rfl (tw_a5 hTw) (show (0 : Int) ≤ 1 by decide) (by omega) (by omega) ?_
              refine zs_nm (fun h3 e3 => ?_)
              have hTw : TwT h3 := by rw [e3]; exact hTw
              have hS3 : Same (fun a _ => a = (1, 5)) h h3 := by rw [e3]; exact ((((hS.set rfl).set rfl).set rfl).set rfl).set rfl
              have r3 : gI h3 (1, 5) = upR (upR (upR (upR (upR Rn (158 + 6 * Rn 157) (Rn (3 + Rn (13 + 6 * n)))) (158 + 6 * Rn 157 + 1) n) (158 + 6 * Rn 157 + 2) 0) (158 + 6 * Rn 157 + 3) (-1)) (158 + 6 * Rn 157 + 4) (-1) := by rw [e3, gI_up, gI_up, gI_up, gI_up, gI_up, hr]
              refine zs_aload_n hΓ dX5_tick_182 (pc' := 183) rfl rfl rfl ?_
              refine zs_getrE hΓ dX5_tick_183 (pc' := 186) rfl fX5_30 (i9 := 5) rfl rfl (tw_t hTw) (tw_p5 hTw) ?_
              refine zs_sipush hΓ dX5_tick_186 (pc' := 189) rfl ⟨by decide, by decide⟩ ?_
              refine zs_dup2 hΓ dX5_tick_189 (pc' := 190) rfl  ?_
              refine zs_iald hΓ dX5_tick_190 (pc' := 191) rfl (tw_a5 hTw) (by omega) (by omega) ?_
              refine zs_eqI (y := Rn 157) (by rw [r3, upR_n _ _ (by omega), upR_n _ _ (by omega), upR_n _ _ (by omega), upR_n _ _ (by omega), upR_n _ _ (by omega)]) ?_
              refine zs_iconst hΓ dX5_tick_191 (pc' := 192) rfl ⟨by decide, by decide⟩ ?_
              refine zs_iadd hΓ dX5_tick_192 (pc' := 193) rfl (by unfold inI; omega) ?_
              refine zs_iast hΓ dX5_tick_193 (pc' := 194) rfl (tw_a5 hTw) (show (0 : Int) ≤ 1 by decide) (by omega) (by omega) ?_
              refine zs_iinc hΓ dX5_tick_194 (pc' := 197) rfl (L' := [some (zR _), some (zI _), some (zI _), some (zI _)]) rfl (by unfold inI; omega) (by decide) rfl rfl ?_
              refine zs_goto hΓ dX5_tick_197 (tgt := 2) (by decide) ?_
              refine zs_drop 2 (L' := [some (zR _), some (zI _), none, some (zI _)]) rfl ?_
              refine zs_drop 3 (L' := [some (zR _), some (zI _), none, none]) rfl ?_
              exact ih0 _ (hS3.set rfl) (by
                unfold sSpawn1
                rw [zIf_t ⟨c_29, by omega, by omega⟩, if_neg (by omega), gI_up, r3]
                funext j
                unfold sNew upR
                by_cases j1 : j = 157
                · rw [if_pos j1, if_pos j1]
                rw [if_neg j1, if_neg j1]
                by_cases j2 : j = 158 + 6 * Rn 157 + 4
                · rw [if_pos j2, if_neg (by omega), if_neg (by omega), if_neg (by omega), if_neg (by omega), if_pos j2]
                rw [if_neg j2]
                by_cases j3 : j = 158 + 6 * Rn 157 + 3
                · rw [if_pos j3, if_neg (by omega), if_neg (by omega), if_neg (by omega), if_pos j3]
                rw [if_neg j3]
                by_cases j4 : j = 158 + 6 * Rn 157 + 2
                · rw [if_pos j4, if_neg (by omega), if_neg (by omega), if_pos j4]
                rw [if_neg j4]
                by_cases j5 : j = 158 + 6 * Rn 157 + 1
                · rw [if_pos j5, if_neg (by omega), if_pos j5]
                rw [if_neg j5]
                by_cases j6 : j = 158 + 6 * Rn 157
                · rw [if_pos j6, if_pos j6]
                rw [if_neg j6, if_neg j6, if_neg j5, if_neg j4, if_neg j3, if_neg j2])
            · refine zs_aload_n hΓ dX5_tick_96 (pc' := 97) rfl rfl rfl ?_
              refine zs_getrE hΓ dX5_tick_97 (pc' := 100) rfl fX5_30 (i9 := 5) rfl rfl (tw_t hTw) (tw_p5 hTw) ?_
              refine zs_sipush hΓ dX5_tick_100 (pc' := 103) rfl ⟨by decide, by decide⟩ ?_
              refine zs_dup2 hΓ dX5_tick_103 (pc' := 104) rfl  ?_
              refine zs_iald hΓ dX5_tick_104 (pc' := 105) rfl (tw_a5 hTw) (by omega) (by omega) ?_
              refine zs_eqI (congrFun hr _) ?_
              refine zs_iconst hΓ dX5_tick_105 (pc' := 106) rfl ⟨by decide, by decide⟩ ?_
              refine zs_iadd hΓ dX5_tick_106 (pc' := 107) rfl (by unfold inI; omega) ?_
              refine zs_iast hΓ dX5_tick_107 (pc' := 108) rfl (tw_a5 hTw) (show (0 : Int) ≤ 1 by decide) (by omega) (by omega) ?_
              refine zs_goto hΓ dX5_tick_108 (tgt := 194) (by decide) ?_
              refine zs_iinc hΓ dX5_tick_194 (pc' := 197) rfl (L' := [some (zR _), some (zI _), some (zI _), none]) rfl (by unfold inI; omega) (by decide) rfl rfl ?_
              refine zs_goto hΓ dX5_tick_197 (tgt := 2) (by decide) ?_
              refine zs_drop 2 (L' := [some (zR _), some (zI _), none, none]) rfl ?_
              exact ih0 _ (hS.set rfl) (by unfold sSpawn1; rw [zIf_t ⟨c_29, by omega, by omega⟩, if_pos (by omega), gI_up, hr])
          · refine zs_goto hΓ dX5_tick_80 (tgt := 194) (by decide) ?_
            refine zs_iinc hΓ dX5_tick_194 (pc' := 197) rfl (L' := [some (zR _), some (zI _), some (zI _), none]) rfl (by unfold inI; omega) (by decide) rfl rfl ?_
            refine zs_goto hΓ dX5_tick_197 (tgt := 2) (by decide) ?_
            refine zs_drop 2 (L' := [some (zR _), some (zI _), none, none]) rfl ?_
            exact hno (fun z => c_77 z.2.2)
  refine zs_iconst hΓ dX5_tick_0 (pc' := 1) rfl ⟨by decide, by decide⟩ ?_
  refine zs_istore_n hΓ dX5_tick_1 (pc' := 2) rfl (L' := [some (zR _), some (zI _), none, none]) rfl (by decide) rfl rfl ?_
  have h9 := lp1 (R 12).toNat 0 h (by omega) (Same.rf _ _) hR
  exact h9
