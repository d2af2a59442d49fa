/-! THE TWIN, S: pieces of the net -/
set_option maxRecDepth 100000
/-- what hangs together with M over at most n steps on worn cells -/
def rchN (R : Int → Int) (b : Int) (M : Int → Prop) : Nat → Int → Prop
  | 0, c => M c
  | n + 1, c => rchN R b M n c ∨ ((0 ≤ c ∧ c < R 0 * R 1) ∧ sWorn R b c ∧ ∃ w, (0 ≤ w ∧ w < 8) ∧ 0 ≤ sBeside R c w ∧ rchN R b M n (sBeside R c w))
def sRch (R : Int → Int) (b : Int) (M : Int → Prop) (c : Int) : Prop := ∃ n, rchN R b M n c
theorem rchN_up {R : Int → Int} {b : Int} {M : Int → Prop} {c : Int} : ∀ (m n : Nat), rchN R b M n c → rchN R b M (n + m) c
  | 0, _, h => h
  | m + 1, n, h => Or.inl (rchN_up m n h)
theorem sRch_st {R : Int → Int} {b : Int} {M : Int → Prop} {c w : Int} (hc : 0 ≤ c ∧ c < R 0 * R 1) (hw : sWorn R b c) (h0 : 0 ≤ w ∧ w < 8) (h1 : 0 ≤ sBeside R c w) (h : sRch R b M (sBeside R c w)) : sRch R b M c := by
  obtain ⟨n, h⟩ := h
  exact ⟨n + 1, Or.inr ⟨hc, hw, w, h0, h1, h⟩⟩
theorem sRch_min {R : Int → Int} {b : Int} {M M' : Int → Prop} (h0 : ∀ c, M c → M' c) (h1 : ∀ c w, (0 ≤ c ∧ c < R 0 * R 1) → sWorn R b c → (0 ≤ w ∧ w < 8) → 0 ≤ sBeside R c w → M' (sBeside R c w) → M' c) {c : Int} (h : sRch R b M c) : M' c := by
  obtain ⟨n, h⟩ := h
  induction n generalizing c with
  | zero => exact h0 c h
  | succ n ih =>
    rcases h with h | ⟨hc, hw, w, hw8, hb, h⟩
    · exact ih h
    · exact h1 c w hc hw hw8 hb (ih h)
theorem sRch_worn {R : Int → Int} {b : Int} {M : Int → Prop} (h0 : ∀ c, M c → (0 ≤ c ∧ c < R 0 * R 1) ∧ sWorn R b c) {c : Int} (h : sRch R b M c) : (0 ≤ c ∧ c < R 0 * R 1) ∧ sWorn R b c :=
  sRch_min (M' := fun c => (0 ≤ c ∧ c < R 0 * R 1) ∧ sWorn R b c) h0 (fun c w hc hw _ _ _ => ⟨hc, hw⟩) h
theorem cntP_le {p q : Int → Prop} : ∀ n : Nat, (∀ i : Int, 0 ≤ i → i < n → p i → q i) → cntP p n ≤ cntP q n
  | 0, _ => Int.le_refl 0
  | n + 1, h => by
    have h1 := cntP_le n (fun i i1 i2 => h i i1 (by omega))
    have h2 : iB (p n) ≤ iB (q n) := by
      by_cases c : p n
      · rw [← iB_t c, ← iB_t (h n (by omega) (by omega) c)]; exact Int.le_refl _
      · rw [← iB_f c]; exact (iB_r _).1
    show cntP p n + iB (p n) ≤ cntP q n + iB (q n)
    omega
theorem cntP_lt {p q : Int → Prop} {j : Int} (hj : q j ∧ ¬ p j) : ∀ n : Nat, (0 ≤ j ∧ j < n) → (∀ i : Int, 0 ≤ i → i < n → p i → q i) → cntP p n < cntP q n
  | 0, h, _ => absurd h (by omega)
  | n + 1, hn, h => by
    show cntP p n + iB (p n) < cntP q n + iB (q n)
    by_cases e : j = n
    · have h1 := cntP_le n (fun i i1 i2 => h i i1 (by omega))
      rw [e] at hj
      rw [← iB_t hj.1, ← iB_f hj.2]
      omega
    · have h1 := cntP_lt hj n (by omega) (fun i i1 i2 => h i i1 (by omega))
      have h2 : iB (p n) ≤ iB (q n) := by
        by_cases c : p n
        · rw [← iB_t c, ← iB_t (h n (by omega) (by omega) c)]; exact Int.le_refl _
        · rw [← iB_f c]; exact (iB_r _).1
      omega
/-- the marks on row 43 -/
def MkR (h : zH) (R : Int → Int) (M : Int → Prop) : Prop := ∀ c, 0 ≤ c → c < R 0 * R 1 → gI h (1, 43) c = iB (M c)
theorem con_X5_spread (l : Launch) {h : zH} (hTw : TwT h) {R : Int → Int} {b : Int} (hR : gI h (1, 5) = R) (hb : gI h (1, 0) 28 = b) (hw : RW R) {M : Int → Prop} (hM : MkR h R M) (hMw : ∀ c, M c → (0 ≤ c ∧ c < R 0 * R 1) ∧ sWorn R b c) : Con l mX5_spread 4 0 0 [zR (some (1, 0))] h (rV fun h' => Same (fun a _ => a = (1, 43)) h h' ∧ MkR h' R (sRch R b M)) zNo := by
  refine Con.ofS (by decide +kernel) (Nat.le_of_ble_eq_true rfl) fun Γ hΓ hno hwf hav => ?_
  have hΓ : Ctx Γ l cX5_spread RX5 "spread" 4 (Option.none : Option Jvm.ClassFile.FieldType) _ _ 4 _ _ := hΓ
  show SS Γ 0 [some (zR _), none, none, none] [] _ 0 0
  have hcs := hw.c
  have T0 := hTw
  have fc : ∀ h', Same (fun a _ => a = (1, 43)) h h' → TwT h' ∧ gI h' (1, 5) = R ∧ gI h' (1, 0) 28 = b := fun h' hS => ⟨T0.same hS, (hS.row fun _ => n1 (by decide)).trans hR, (hS.2.2 _ _ (n1 (by decide))).trans hb⟩
  -- one cell's ways
  have inner : ∀ (c more : Int) (N : Int → Prop), (0 ≤ c ∧ c < R 0 * R 1) → sWorn R b c → ¬ N c → (∀ c, N c → (0 ≤ c ∧ c < R 0 * R 1) ∧ sWorn R b c) →
      (∀ (h' : zH) (N' : Int → Prop) (d : Int), Same (fun a _ => a = (1, 43)) h h' → MkR h' R N' → ((N' c ∧ (∀ x, N' x ↔ N x ∨ x = c) ∧ ∃ w, (0 ≤ w ∧ w < 8) ∧ 0 ≤ sBeside R c w ∧ N (sBeside R c w)) ∨ (¬ N' c ∧ (∀ x, N' x ↔ N x) ∧ ∀ w, 0 ≤ w → w < 8 → 0 ≤ sBeside R c w → ¬ N (sBeside R c w))) → SS Γ 108 [some (zR (some (1, 0))), some (zI more), some (zI c), some (zI d)] [] h' 0 0) →
      ∀ (m : Nat) (d : Int) (h' : zH), d + m = 8 → 0 ≤ d → Same (fun a _ => a = (1, 43)) h h' → MkR h' R N → (∀ w, 0 ≤ w → w < d → 0 ≤ sBeside R c w → ¬ N (sBeside R c w)) → SS Γ 40 [some (zR (some (1, 0))), some (zI more), some (zI c), some (zI d)] [] h' 0 0 := by
    intro c more N hc hwo hNc hNw K m
    induction m with
    | zero =>
      intro d h' hd hd0 hS hN hno
      obtain ⟨hTw, r5, b28⟩ := fc h' hS
      refine zs_iload_n hΓ dX5_spread_40 (pc' := 41) rfl rfl rfl ?_
      refine zs_bipush hΓ dX5_spread_41 (pc' := 43) rfl ⟨by decide, by decide⟩ ?_
      refine zs_icmpge hΓ dX5_spread_43 (tgt := 108) (by decide) (pc' := 46) rfl (fun c_43 => ?_) (fun c_43 => False.elim (absurd c_43 (by omega)))
      exact K h' N d hS hN (Or.inr ⟨hNc, fun _ => Iff.rfl, fun w w1 w2 => hno w w1 (by omega)⟩)
    | succ m ih =>
      intro d h' hd hd0 hS hN hno
      obtain ⟨hTw, r5, b28⟩ := fc h' hS
      have hbr := sBeside_r hw (c := c) (d := d)
      have mc := hN c hc.1 hc.2
      have next : ¬ (0 ≤ sBeside R c d ∧ N (sBeside R c d)) → SS Γ 40 [some (zR (some (1, 0))), some (zI more), some (zI c), some (zI (d + 1))] [] (setI h' (1, 43) c 0) 0 0 := fun z => ih (d + 1) _ (by omega) (by omega) (hS.set rfl) (fun x x1 x2 => by rw [gI_setI]; by_cases e : x = c; rw [if_pos ⟨rfl, e⟩, e]; exact iB_f hNc; rw [if_neg (fun z => e z.2)]; exact hN x x1 x2) (fun w w1 w2 w3 w4 => by by_cases e : w = d; rw [e] at w3 w4; exact z ⟨w3, w4⟩; exact hno w w1 (by omega) w3 w4)
      have hit : 0 ≤ sBeside R c d → N (sBeside R c d) → SS Γ 40 [some (zR (some (1, 0))), some (zI more), some (zI c), some (zI (d + 1))] [] (setI h' (1, 43) c 1) 0 0 := by
        intro z1 z2
        have hS9 : Same (fun a _ => a = (1, 43)) h (setI h' (1, 43) c 1) := hS.set rfl
        have hN9 : MkR (setI h' (1, 43) c 1) R (fun x => N x ∨ x = c) := fun x x1 x2 => by
          rw [gI_setI]
          by_cases e : x = c
          · rw [if_pos ⟨rfl, e⟩]; exact iB_t (Or.inr e)
          · rw [if_neg (fun z => e z.2), hN x x1 x2]
            exact iB_iff ⟨Or.inl, fun z => z.resolve_right e⟩
        have fin := K _ _ (d + 1) hS9 hN9 (Or.inl ⟨Or.inr rfl, fun _ => Iff.rfl, d, ⟨hd0, by omega⟩, z1, z2⟩)
        obtain ⟨hTw, r5, b28⟩ := fc _ hS9
        have e52 : gI (setI h' (1, 43) c 1) (1, 43) c = 1 := by rw [gI_setI, if_pos ⟨rfl, rfl⟩]
        refine zs_iload_n hΓ dX5_spread_40 (pc' := 41) rfl rfl rfl ?_
        refine zs_bipush hΓ dX5_spread_41 (pc' := 43) rfl ⟨by decide, by decide⟩ ?_
        refine zs_icmpge hΓ dX5_spread_43 (tgt := 108) (by decide) (pc' := 46) rfl (fun c_43 => ?_) (fun c_43 => ?_)
        · exact fin
        · refine zs_aload_n hΓ dX5_spread_46 (pc' := 47) rfl rfl rfl ?_
          refine zs_getrE hΓ dX5_spread_47 (pc' := 50) rfl fX5_89 (i9 := 43) rfl rfl (tw_t hTw) (tw_p43 hTw) ?_
          refine zs_iload_n hΓ dX5_spread_50 (pc' := 51) rfl rfl rfl ?_
          refine zs_zald hΓ dX5_spread_51 (pc' := 52) rfl (tw_a43 hTw) (by omega) (by omega) ?_
          refine zs_eqI e52 ?_
          refine zs_ifne hΓ dX5_spread_52 (tgt := 108) (by decide) (pc' := 55) rfl (fun c_52 => ?_) (fun c_52 => False.elim (absurd c_52 (by decide)))
          exact fin
      refine zs_iload_n hΓ dX5_spread_40 (pc' := 41) rfl rfl rfl ?_
      refine zs_bipush hΓ dX5_spread_41 (pc' := 43) rfl ⟨by decide, by decide⟩ ?_
      refine zs_icmpge hΓ dX5_spread_43 (tgt := 108) (by decide) (pc' := 46) rfl (fun c_43 => False.elim (absurd c_43 (by omega))) (fun c_43 => ?_)
      refine zs_aload_n hΓ dX5_spread_46 (pc' := 47) rfl rfl rfl ?_
      refine zs_getrE hΓ dX5_spread_47 (pc' := 50) rfl fX5_89 (i9 := 43) rfl rfl (tw_t hTw) (tw_p43 hTw) ?_
      refine zs_iload_n hΓ dX5_spread_50 (pc' := 51) rfl rfl rfl ?_
      refine zs_zald hΓ dX5_spread_51 (pc' := 52) rfl (tw_a43 hTw) (by omega) (by omega) ?_
      refine zs_eqI mc ?_
      refine zs_ifne hΓ dX5_spread_52 (tgt := 108) (by decide) (pc' := 55) rfl (fun c_52 => False.elim (absurd (iB_ne c_52) hNc)) (fun c_52 => ?_)
      refine zs_aload_n hΓ dX5_spread_55 (pc' := 56) rfl rfl rfl ?_
      refine zs_getrE hΓ dX5_spread_56 (pc' := 59) rfl fX5_89 (i9 := 43) rfl rfl (tw_t hTw) (tw_p43 hTw) ?_
      refine zs_iload_n hΓ dX5_spread_59 (pc' := 60) rfl rfl rfl ?_
      refine zs_aload_n hΓ dX5_spread_60 (pc' := 61) rfl rfl rfl ?_
      refine zs_iload_n hΓ dX5_spread_61 (pc' := 62) rfl rfl rfl ?_
      refine zs_iload_n hΓ dX5_spread_62 (pc' := 63) rfl rfl rfl ?_
      refine zs_callVIP hΓ dX5_spread_63 (pc' := 66) rfl kX5_380 (con_X5_beside l hTw (by rw [r5]; exact hw) c d (by rw [r5]; exact hc) (by omega)) (tw_t hTw) rfl rfl rfl (Nat.le_of_ble_eq_true rfl) (by omega) (by decide) (by omega) (by omega) ?_ (fun _ _ q _ => False.elim q)
      rw [r5]
      refine zs_iflt hΓ dX5_spread_66 (tgt := 100) (by decide) (pc' := 69) rfl (fun c_66 => ?_) (fun c_66 => ?_)
      · refine zs_iconst hΓ dX5_spread_100 (pc' := 101) rfl ⟨by decide, by decide⟩ ?_
        refine zs_zast hΓ dX5_spread_101 (pc' := 102) rfl (tw_a43 hTw) (show (0 : Int) ≤ 1 by decide) (by omega) (by omega) (by omega) ?_
        refine zs_iinc hΓ dX5_spread_102 (pc' := 105) rfl (L' := [some (zR _), some (zI _), some (zI _), some (zI _)]) rfl (by unfold inI; omega) (by decide) rfl rfl ?_
        refine zs_goto hΓ dX5_spread_105 (tgt := 40) (by decide) ?_
        exact next (fun z => absurd z.1 (by omega))
      · refine zs_aload_n hΓ dX5_spread_69 (pc' := 70) rfl rfl rfl ?_
        refine zs_getrE hΓ dX5_spread_70 (pc' := 73) rfl fX5_89 (i9 := 43) rfl rfl (tw_t hTw) (tw_p43 hTw) ?_
        refine zs_aload_n hΓ dX5_spread_73 (pc' := 74) rfl rfl rfl ?_
        refine zs_iload_n hΓ dX5_spread_74 (pc' := 75) rfl rfl rfl ?_
        refine zs_iload_n hΓ dX5_spread_75 (pc' := 76) rfl rfl rfl ?_
        refine zs_callVIP hΓ dX5_spread_76 (pc' := 79) rfl kX5_380 (con_X5_beside l hTw (by rw [r5]; exact hw) c d (by rw [r5]; exact hc) (by omega)) (tw_t hTw) rfl rfl rfl (Nat.le_of_ble_eq_true rfl) (by omega) (by decide) (by omega) (by omega) ?_ (fun _ _ q _ => False.elim q)
        rw [r5]
        refine zs_zald hΓ dX5_spread_79 (pc' := 80) rfl (tw_a43 hTw) (by omega) (by omega) ?_
        refine zs_eqI (hN _ (by omega) (by omega)) ?_
        refine zs_ifeq hΓ dX5_spread_80 (tgt := 100) (by decide) (pc' := 83) rfl (fun c_80 => ?_) (fun c_80 => ?_)
        · have c_80 := iB_eq c_80
          refine zs_iconst hΓ dX5_spread_100 (pc' := 101) rfl ⟨by decide, by decide⟩ ?_
          refine zs_zast hΓ dX5_spread_101 (pc' := 102) rfl (tw_a43 hTw) (show (0 : Int) ≤ 1 by decide) (by omega) (by omega) (by omega) ?_
          refine zs_iinc hΓ dX5_spread_102 (pc' := 105) rfl (L' := [some (zR _), some (zI _), some (zI _), some (zI _)]) rfl (by unfold inI; omega) (by decide) rfl rfl ?_
          refine zs_goto hΓ dX5_spread_105 (tgt := 40) (by decide) ?_
          exact next (fun z => c_80 z.2)
        · have c_80 := iB_ne c_80
          refine zs_aload_n hΓ dX5_spread_83 (pc' := 84) rfl rfl rfl ?_
          refine zs_aload_n hΓ dX5_spread_84 (pc' := 85) rfl rfl rfl ?_
          refine zs_iload_n hΓ dX5_spread_85 (pc' := 86) rfl rfl rfl ?_
          refine zs_iload_n hΓ dX5_spread_86 (pc' := 87) rfl rfl rfl ?_
          refine zs_callVIP hΓ dX5_spread_87 (pc' := 90) rfl kX5_380 (con_X5_beside l hTw (by rw [r5]; exact hw) c d (by rw [r5]; exact hc) (by omega)) (tw_t hTw) rfl rfl rfl (Nat.le_of_ble_eq_true rfl) (by omega) (by decide) (by omega) (by omega) ?_ (fun _ _ q _ => False.elim q)
          rw [r5]
          refine zs_callVIP hΓ dX5_spread_90 (pc' := 93) rfl kX5_140 (con_X5_isWorn l hTw _ (by omega)) (tw_t hTw) rfl rfl rfl (Nat.le_of_ble_eq_true rfl) (by omega) (by decide) (by omega) (by omega) ?_ (fun _ _ q _ => False.elim q)
          rw [r5, b28]
          refine zs_ifeq hΓ dX5_spread_93 (tgt := 100) (by decide) (pc' := 96) rfl (fun c_93 => ?_) (fun c_93 => ?_)
          · try have c_93 := iB_eq c_93
            refine zs_iconst hΓ dX5_spread_100 (pc' := 101) rfl ⟨by decide, by decide⟩ ?_
            refine zs_zast hΓ dX5_spread_101 (pc' := 102) rfl (tw_a43 hTw) (show (0 : Int) ≤ 1 by decide) (by omega) (by omega) (by omega) ?_
            refine zs_iinc hΓ dX5_spread_102 (pc' := 105) rfl (L' := [some (zR _), some (zI _), some (zI _), some (zI _)]) rfl (by unfold inI; omega) (by decide) rfl rfl ?_
            refine zs_goto hΓ dX5_spread_105 (tgt := 40) (by decide) ?_
            exact next (fun z => c_93 (hNw _ c_80).2)
          · try have c_93 := iB_ne c_93
            refine zs_iconst hΓ dX5_spread_96 (pc' := 97) rfl ⟨by decide, by decide⟩ ?_
            refine zs_goto hΓ dX5_spread_97 (tgt := 101) (by decide) ?_
            refine zs_zast hΓ dX5_spread_101 (pc' := 102) rfl (tw_a43 hTw) (show (0 : Int) ≤ 1 by decide) (by omega) (by omega) (by omega) ?_
            refine zs_iinc hΓ dX5_spread_102 (pc' := 105) rfl (L' := [some (zR _), some (zI _), some (zI _), some (zI _)]) rfl (by unfold inI; omega) (by decide) rfl rfl ?_
            refine zs_goto hΓ dX5_spread_105 (tgt := 40) (by decide) ?_
            exact hit (by omega) c_80
  -- sweeps
  have outer : ∀ (U : Nat) (N : Int → Prop) (h' : zH) (more : Int), cntP (fun c => sWorn R b c ∧ ¬ N c) (R 0 * R 1).toNat ≤ U → Same (fun a _ => a = (1, 43)) h h' → MkR h' R N → (∀ c, M c → N c) → (∀ c, N c → sRch R b M c) → ((more = 0 ∧ ∀ c w, (0 ≤ c ∧ c < R 0 * R 1) → sWorn R b c → (0 ≤ w ∧ w < 8) → 0 ≤ sBeside R c w → N (sBeside R c w) → N c) ∨ more = 1) → SS Γ 2 [some (zR (some (1, 0))), some (zI more), none, none] [] h' 0 0 := by
    intro U
    induction U using Nat.strongRecOn with
    | _ U ihU =>
      intro N h' more hU hS hN hMN hNR hmo
      have hNw : ∀ c, N c → (0 ≤ c ∧ c < R 0 * R 1) ∧ sWorn R b c := fun c hc => sRch_worn hMw (hNR c hc)
      have sweep : ∀ (m : Nat) (c : Int) (mo : Int) (N' : Int → Prop) (h'' : zH), c + m = R 0 * R 1 → 0 ≤ c → Same (fun a _ => a = (1, 43)) h h'' → MkR h'' R N' → (∀ x, N x → N' x) → (∀ x, N' x → sRch R b M x) → ((mo = 0 ∧ (∀ x, N' x ↔ N x) ∧ ∀ x w, 0 ≤ x → x < c → sWorn R b x → (0 ≤ w ∧ w < 8) → 0 ≤ sBeside R x w → N (sBeside R x w) → N x) ∨ (mo = 1 ∧ ∃ x, (0 ≤ x ∧ x < R 0 * R 1) ∧ sWorn R b x ∧ N' x ∧ ¬ N x)) → SS Γ 10 [some (zR (some (1, 0))), some (zI mo), some (zI c), none] [] h'' 0 0 := by
        intro m
        induction m with
        | zero =>
          intro c mo N' h'' hc hc0 hS2 hN2 hsub hr2 hmo2
          obtain ⟨hTw, r5, b28⟩ := fc h'' hS2
          have fin : SS Γ 2 [some (zR (some (1, 0))), some (zI mo), none, none] [] h'' 0 0 := by
            rcases hmo2 with ⟨q1, q2, q3⟩ | ⟨q1, x, q2, q3, q4, q5⟩
            · subst q1
              -- closed: the last look ends
              have hcl : ∀ c w, (0 ≤ c ∧ c < R 0 * R 1) → sWorn R b c → (0 ≤ w ∧ w < 8) → 0 ≤ sBeside R c w → N' (sBeside R c w) → N' c := fun x w x1 x2 x3 x4 x5 => (q2 x).mpr (q3 x w x1.1 (by omega) x2 x3 x4 ((q2 _).mp x5))
              refine zs_iload_n hΓ dX5_spread_2 (pc' := 3) rfl rfl rfl ?_
              refine zs_ifeq hΓ dX5_spread_3 (tgt := 136) (by decide) (pc' := 6) rfl (fun c_3 => ?_) (fun c_3 => False.elim (absurd rfl c_3))
              exact zs_vret hΓ dX5_spread_136 rfl (by omega) (by omega) (⟨rfl, hS2, fun x x1 x2 => by rw [hN2 x x1 x2]; exact iB_iff ⟨hr2 x, fun z => sRch_min (fun y hy => hsub y (hMN y hy)) hcl z⟩⟩)
            · have hlt := cntP_lt (p := fun c => sWorn R b c ∧ ¬ N' c) (q := fun c => sWorn R b c ∧ ¬ N c) (j := x) ⟨⟨q3, q5⟩, fun z => z.2 q4⟩ (R 0 * R 1).toNat (by omega) (fun i _ _ z => ⟨z.1, fun y => z.2 (hsub i y)⟩)
              have h0 := cntP_r (fun c => sWorn R b c ∧ ¬ N' c) (R 0 * R 1).toNat
              exact ihU (cntP (fun c => sWorn R b c ∧ ¬ N' c) (R 0 * R 1).toNat).toNat (by omega) N' h'' mo (by omega) hS2 hN2 (fun y hy => hsub y (hMN y hy)) hr2 (Or.inr q1)
          refine zs_iload_n hΓ dX5_spread_10 (pc' := 11) rfl rfl rfl ?_
          refine zs_aload_n hΓ dX5_spread_11 (pc' := 12) rfl rfl rfl ?_
          refine zs_callVIP hΓ dX5_spread_12 (pc' := 15) rfl kX5_128 (con_X5_cells l hTw (by rw [r5]; exact hw)) (tw_t hTw) rfl rfl rfl (Nat.le_of_ble_eq_true rfl) (by omega) (by decide) (by omega) (by omega) ?_ (fun _ _ q _ => False.elim q)
          rw [r5]
          refine zs_icmpge hΓ dX5_spread_15 (tgt := 133) (by decide) (pc' := 18) rfl (fun c_15 => ?_) (fun c_15 => False.elim (absurd c_15 (by omega)))
          refine zs_goto hΓ dX5_spread_133 (tgt := 2) (by decide) ?_
          refine zs_drop 2 (L' := [some (zR _), some (zI _), none, none]) rfl ?_
          exact fin
        | succ m ih =>
          intro c mo N' h'' hc hc0 hS2 hN2 hsub hr2 hmo2
          obtain ⟨hTw, r5, b28⟩ := fc h'' hS2
          have hNw2 : ∀ c, N' c → (0 ≤ c ∧ c < R 0 * R 1) ∧ sWorn R b c := fun c hc => sRch_worn hMw (hr2 c hc)
          have goOn : sWorn R b c → ¬ N' c → ∀ (h3 : zH) (N3 : Int → Prop), Same (fun a _ => a = (1, 43)) h h3 → MkR h3 R N3 → ((N3 c ∧ (∀ x, N3 x ↔ N' x ∨ x = c) ∧ ∃ w, (0 ≤ w ∧ w < 8) ∧ 0 ≤ sBeside R c w ∧ N' (sBeside R c w)) ∨ (¬ N3 c ∧ (∀ x, N3 x ↔ N' x) ∧ ∀ w, 0 ≤ w → w < 8 → 0 ≤ sBeside R c w → ¬ N' (sBeside R c w))) → ∀ mo', ((mo' = 0 ∧ mo = 0 ∧ ¬ N3 c) ∨ (mo' = 1 ∧ (mo = 1 ∨ N3 c))) → SS Γ 10 [some (zR (some (1, 0))), some (zI mo'), some (zI (c + 1)), none] [] h3 0 0 := by
            intro c_23 c_32 h3 N3 hS3 hN3 hcase mo' hmo'
            rcases hcase with ⟨k1, k2, w, k3, k4, k5⟩ | ⟨k1, k2, k3⟩
            · refine ih (c + 1) mo' N3 h3 (by omega) (by omega) hS3 hN3 (fun x hx => (k2 x).mpr (Or.inl (hsub x hx))) (fun x hx => ?_) (Or.inr ⟨by rcases hmo' with z | z; exact absurd k1 z.2.2; exact z.1, c, ⟨hc0, by omega⟩, c_23, k1, fun z => c_32 (hsub c z)⟩)
              rcases (k2 x).mp hx with z | z
              · exact hr2 x z
              · rw [z]; exact sRch_st ⟨hc0, by omega⟩ c_23 k3 k4 (hr2 _ k5)
            · refine ih (c + 1) mo' N3 h3 (by omega) (by omega) hS3 hN3 (fun x hx => (k2 x).mpr (hsub x hx)) (fun x hx => hr2 x ((k2 x).mp hx)) ?_
              rcases hmo2 with ⟨q1, q2, q3⟩ | ⟨q1, x, q2, q3, q4, q5⟩
              · refine Or.inl ⟨?_, fun x => (k2 x).trans (q2 x), fun x w x1 x2 x3 x4 x5 x6 => ?_⟩
                · rcases hmo' with z | z
                  · exact z.1
                  · rcases z.2 with y | y
                    · omega
                    · exact absurd y k1
                · by_cases e : x = c
                  · rw [e] at x5 x6
                    exact absurd ((q2 _).mpr x6) (k3 w x4.1 x4.2 x5)
                  · exact q3 x w x1 (by omega) x3 x4 x5 x6
              · refine Or.inr ⟨?_, x, q2, q3, (k2 x).mpr q4, q5⟩
                rcases hmo' with z | z
                · omega
                · exact z.1
          have mo01 : mo = 0 ∨ mo = 1 := hmo2.imp (fun z => z.1) (fun z => z.1)
          have tail : ∀ (h3 : zH) (N3 : Int → Prop) (d : Int), Same (fun a _ => a = (1, 43)) h h3 → MkR h3 R N3 → (∀ mo', ((mo' = 0 ∧ mo = 0 ∧ ¬ N3 c) ∨ (mo' = 1 ∧ (mo = 1 ∨ N3 c))) → SS Γ 10 [some (zR (some (1, 0))), some (zI mo'), some (zI (c + 1)), none] [] h3 0 0) → SS Γ 108 [some (zR (some (1, 0))), some (zI mo), some (zI c), some (zI d)] [] h3 0 0 := by
            intro h3 N3 d hS3 hN3 go9
            obtain ⟨hTw, r5, b28⟩ := fc h3 hS3
            refine zs_iload_n hΓ dX5_spread_108 (pc' := 109) rfl rfl rfl ?_
            refine zs_ifne hΓ dX5_spread_109 (tgt := 121) (by decide) (pc' := 112) rfl (fun c_109 => ?_) (fun c_109 => ?_)
            · refine zs_iconst hΓ dX5_spread_121 (pc' := 122) rfl ⟨by decide, by decide⟩ ?_
              refine zs_goto hΓ dX5_spread_122 (tgt := 126) (by decide) ?_
              refine zs_istore_n hΓ dX5_spread_126 (pc' := 127) rfl (L' := [some (zR _), some (zI _), some (zI _), some (zI _)]) rfl (by decide) rfl rfl ?_
              refine zs_iinc hΓ dX5_spread_127 (pc' := 130) rfl (L' := [some (zR _), some (zI _), some (zI _), some (zI _)]) rfl (by unfold inI; omega) (by decide) rfl rfl ?_
              refine zs_goto hΓ dX5_spread_130 (tgt := 10) (by decide) ?_
              refine zs_drop 3 (L' := [some (zR _), some (zI _), some (zI _), none]) rfl ?_
              exact go9 1 (Or.inr ⟨rfl, Or.inl (by omega)⟩)
            · refine zs_aload_n hΓ dX5_spread_112 (pc' := 113) rfl rfl rfl ?_
              refine zs_getrE hΓ dX5_spread_113 (pc' := 116) rfl fX5_89 (i9 := 43) rfl rfl (tw_t hTw) (tw_p43 hTw) ?_
              refine zs_iload_n hΓ dX5_spread_116 (pc' := 117) rfl rfl rfl ?_
              refine zs_zald hΓ dX5_spread_117 (pc' := 118) rfl (tw_a43 hTw) (by omega) (by omega) ?_
              refine zs_eqI (hN3 c hc0 (by omega)) ?_
              refine zs_ifeq hΓ dX5_spread_118 (tgt := 125) (by decide) (pc' := 121) rfl (fun c_118 => ?_) (fun c_118 => ?_)
              · have c_118 := iB_eq c_118
                refine zs_iconst hΓ dX5_spread_125 (pc' := 126) rfl ⟨by decide, by decide⟩ ?_
                refine zs_istore_n hΓ dX5_spread_126 (pc' := 127) rfl (L' := [some (zR _), some (zI _), some (zI _), some (zI _)]) rfl (by decide) rfl rfl ?_
                refine zs_iinc hΓ dX5_spread_127 (pc' := 130) rfl (L' := [some (zR _), some (zI _), some (zI _), some (zI _)]) rfl (by unfold inI; omega) (by decide) rfl rfl ?_
                refine zs_goto hΓ dX5_spread_130 (tgt := 10) (by decide) ?_
                refine zs_drop 3 (L' := [some (zR _), some (zI _), some (zI _), none]) rfl ?_
                exact go9 0 (Or.inl ⟨rfl, by omega, c_118⟩)
              · have c_118 := iB_ne c_118
                refine zs_iconst hΓ dX5_spread_121 (pc' := 122) rfl ⟨by decide, by decide⟩ ?_
                refine zs_goto hΓ dX5_spread_122 (tgt := 126) (by decide) ?_
                refine zs_istore_n hΓ dX5_spread_126 (pc' := 127) rfl (L' := [some (zR _), some (zI _), some (zI _), some (zI _)]) rfl (by decide) rfl rfl ?_
                refine zs_iinc hΓ dX5_spread_127 (pc' := 130) rfl (L' := [some (zR _), some (zI _), some (zI _), some (zI _)]) rfl (by unfold inI; omega) (by decide) rfl rfl ?_
                refine zs_goto hΓ dX5_spread_130 (tgt := 10) (by decide) ?_
                refine zs_drop 3 (L' := [some (zR _), some (zI _), some (zI _), none]) rfl ?_
                exact go9 1 (Or.inr ⟨rfl, Or.inr c_118⟩)
          have skip : (¬ sWorn R b c ∨ N' c) → SS Γ 10 [some (zR (some (1, 0))), some (zI mo), some (zI (c + 1)), none] [] h'' 0 0 := fun z => ih (c + 1) mo N' h'' (by omega) (by omega) hS2 hN2 hsub hr2 (hmo2.imp (fun q => ⟨q.1, q.2.1, fun x w x1 x2 x3 x4 x5 x6 => by by_cases e : x = c; rcases z with z | z; rw [e] at x3; exact absurd x3 z; rw [e]; exact (q.2.1 c).mp z; exact q.2.2 x w x1 (by omega) x3 x4 x5 x6⟩) id)
          refine zs_iload_n hΓ dX5_spread_10 (pc' := 11) rfl rfl rfl ?_
          refine zs_aload_n hΓ dX5_spread_11 (pc' := 12) rfl rfl rfl ?_
          refine zs_callVIP hΓ dX5_spread_12 (pc' := 15) rfl kX5_128 (con_X5_cells l hTw (by rw [r5]; exact hw)) (tw_t hTw) rfl rfl rfl (Nat.le_of_ble_eq_true rfl) (by omega) (by decide) (by omega) (by omega) ?_ (fun _ _ q _ => False.elim q)
          rw [r5]
          refine zs_icmpge hΓ dX5_spread_15 (tgt := 133) (by decide) (pc' := 18) rfl (fun c_15 => False.elim (absurd c_15 (by omega))) (fun c_15 => ?_)
          refine zs_aload_n hΓ dX5_spread_18 (pc' := 19) rfl rfl rfl ?_
          refine zs_iload_n hΓ dX5_spread_19 (pc' := 20) rfl rfl rfl ?_
          refine zs_callVIP hΓ dX5_spread_20 (pc' := 23) rfl kX5_140 (con_X5_isWorn l hTw c (by omega)) (tw_t hTw) rfl rfl rfl (Nat.le_of_ble_eq_true rfl) (by omega) (by decide) (by omega) (by omega) ?_ (fun _ _ q _ => False.elim q)
          rw [r5, b28]
          refine zs_ifeq hΓ dX5_spread_23 (tgt := 127) (by decide) (pc' := 26) rfl (fun c_23 => ?_) (fun c_23 => ?_)
          · try have c_23 := iB_eq c_23
            refine zs_iinc hΓ dX5_spread_127 (pc' := 130) rfl (L' := [some (zR _), some (zI _), some (zI _), none]) rfl (by unfold inI; omega) (by decide) rfl rfl ?_
            refine zs_goto hΓ dX5_spread_130 (tgt := 10) (by decide) ?_
            exact skip (Or.inl c_23)
          · try have c_23 := iB_ne c_23
            refine zs_aload_n hΓ dX5_spread_26 (pc' := 27) rfl rfl rfl ?_
            refine zs_getrE hΓ dX5_spread_27 (pc' := 30) rfl fX5_89 (i9 := 43) rfl rfl (tw_t hTw) (tw_p43 hTw) ?_
            refine zs_iload_n hΓ dX5_spread_30 (pc' := 31) rfl rfl rfl ?_
            refine zs_zald hΓ dX5_spread_31 (pc' := 32) rfl (tw_a43 hTw) (by omega) (by omega) ?_
            refine zs_eqI (hN2 c hc0 (by omega)) ?_
            refine zs_ifeq hΓ dX5_spread_32 (tgt := 38) (by decide) (pc' := 35) rfl (fun c_32 => ?_) (fun c_32 => ?_)
            · have c_32 := iB_eq c_32
              refine zs_iconst hΓ dX5_spread_38 (pc' := 39) rfl ⟨by decide, by decide⟩ ?_
              refine zs_istore_n hΓ dX5_spread_39 (pc' := 40) rfl (L' := [some (zR _), some (zI _), some (zI _), some (zI _)]) rfl (by decide) rfl rfl ?_
              exact inner c mo N' ⟨hc0, by omega⟩ c_23 c_32 hNw2 (fun h3 N3 d hS3 hN3 hcase => tail h3 N3 d hS3 hN3 (fun mo' hmo' => goOn c_23 c_32 h3 N3 hS3 hN3 hcase mo' hmo')) 8 0 h'' (by omega) (by omega) hS2 hN2 (fun w _ _ => by omega)
            · have c_32 := iB_ne c_32
              refine zs_goto hΓ dX5_spread_35 (tgt := 127) (by decide) ?_
              refine zs_iinc hΓ dX5_spread_127 (pc' := 130) rfl (L' := [some (zR _), some (zI _), some (zI _), none]) rfl (by unfold inI; omega) (by decide) rfl rfl ?_
              refine zs_goto hΓ dX5_spread_130 (tgt := 10) (by decide) ?_
              exact skip (Or.inr c_32)
      obtain ⟨hTw, r5, b28⟩ := fc h' hS
      rcases hmo with ⟨q1, q2⟩ | q1
      · subst q1
        refine zs_iload_n hΓ dX5_spread_2 (pc' := 3) rfl rfl rfl ?_
        refine zs_ifeq hΓ dX5_spread_3 (tgt := 136) (by decide) (pc' := 6) rfl (fun c_3 => ?_) (fun c_3 => False.elim (absurd rfl c_3))
        exact zs_vret hΓ dX5_spread_136 rfl (by omega) (by omega) (⟨rfl, hS, fun x x1 x2 => by rw [hN x x1 x2]; exact iB_iff ⟨hNR x, fun z => sRch_min hMN q2 z⟩⟩)
      · subst q1
        refine zs_iload_n hΓ dX5_spread_2 (pc' := 3) rfl rfl rfl ?_
        refine zs_ifeq hΓ dX5_spread_3 (tgt := 136) (by decide) (pc' := 6) rfl (fun c_3 => False.elim (absurd c_3 (by decide))) (fun c_3 => ?_)
        refine zs_iconst hΓ dX5_spread_6 (pc' := 7) rfl ⟨by decide, by decide⟩ ?_
        refine zs_istore_n hΓ dX5_spread_7 (pc' := 8) rfl (L' := [some (zR _), some (zI _), none, none]) rfl (by decide) rfl rfl ?_
        refine zs_iconst hΓ dX5_spread_8 (pc' := 9) rfl ⟨by decide, by decide⟩ ?_
        refine zs_istore_n hΓ dX5_spread_9 (pc' := 10) rfl (L' := [some (zR _), some (zI _), some (zI _), none]) rfl (by decide) rfl rfl ?_
        exact sweep (R 0 * R 1).toNat 0 0 N h' (by omega) (by omega) hS hN (fun _ z => z) hNR (Or.inl ⟨rfl, fun _ => Iff.rfl, fun x w x1 x2 => by omega⟩)
  refine zs_iconst hΓ dX5_spread_0 (pc' := 1) rfl ⟨by decide, by decide⟩ ?_
  refine zs_istore_n hΓ dX5_spread_1 (pc' := 2) rfl (L' := [some (zR _), some (zI _), none, none]) rfl (by decide) rfl rfl ?_
  exact outer (cntP (fun c => sWorn R b c ∧ ¬ M c) (R 0 * R 1).toNat).toNat M h 1 (by have := (cntP_r (fun c => sWorn R b c ∧ ¬ M c) (R 0 * R 1).toNat).1; omega) (Same.rf _ _) hM (fun _ z => z) (fun c z => ⟨0, z⟩) (Or.inr rfl)
/-- what hangs together with a worn cell before c -/
def sMk (R : Int → Int) (b c x : Int) : Prop := ∃ c', (0 ≤ c' ∧ c' < c) ∧ c' < R 0 * R 1 ∧ sWorn R b c' ∧ sRch R b (fun y => y = c') x
noncomputable def sPieces (R : Int → Int) (b : Int) : Int := cntP (fun c => sWorn R b c ∧ ¬ sMk R b c c) (R 0 * R 1).toNat
theorem sMk_worn {R : Int → Int} {b c x : Int} (h : sMk R b c x) : (0 ≤ x ∧ x < R 0 * R 1) ∧ sWorn R b x := by
  obtain ⟨c', h1, h2, h3, h4⟩ := h
  exact sRch_worn (M := fun y => y = c') (fun y hy => by rw [hy]; exact ⟨⟨h1.1, h2⟩, h3⟩) h4
theorem sMk_s {R : Int → Int} {b c : Int} (hc : 0 ≤ c ∧ c < R 0 * R 1) (hw : sWorn R b c) (x : Int) : sMk R b (c + 1) x ↔ sMk R b c x ∨ sRch R b (fun y => y = c) x := by
  constructor
  · rintro ⟨c', h1, h2, h3, h4⟩
    by_cases e : c' = c
    · rw [e] at h4; exact Or.inr h4
    · exact Or.inl ⟨c', ⟨h1.1, by omega⟩, h2, h3, h4⟩
  · rintro (⟨c', h1, h2, h3, h4⟩ | h)
    · exact ⟨c', ⟨h1.1, by omega⟩, h2, h3, h4⟩
    · exact ⟨c, ⟨hc.1, by omega⟩, hc.2, hw, h⟩
theorem sMk_n {R : Int → Int} {b c : Int} (hw : ¬ sWorn R b c) (x : Int) : sMk R b (c + 1) x ↔ sMk R b c x := by
  constructor
  · rintro ⟨c', h1, h2, h3, h4⟩
    by_cases e : c' = c
    · rw [e] at h3; exact absurd h3 hw
    · exact ⟨c', ⟨h1.1, by omega⟩, h2, h3, h4⟩
  · rintro ⟨c', h1, h2, h3, h4⟩
    exact ⟨c', ⟨h1.1, by omega⟩, h2, h3, h4⟩
theorem sMk_cl {R : Int → Int} {b c x w : Int} (hx : 0 ≤ x ∧ x < R 0 * R 1) (hw : sWorn R b x) (h0 : 0 ≤ w ∧ w < 8) (h1 : 0 ≤ sBeside R x w) (h : sMk R b c (sBeside R x w)) : sMk R b c x := by
  obtain ⟨c', k1, k2, k3, k4⟩ := h
  exact ⟨c', k1, k2, k3, sRch_st hx hw h0 h1 k4⟩
theorem sMk_in {R : Int → Int} {b c d x : Int} (h : sMk R b c d) (hr : sRch R b (fun y => y = d) x) : sMk R b c x :=
  sRch_min (M' := sMk R b c) (fun y hy => by rw [hy]; exact h) (fun y w y1 y2 y3 y4 y5 => sMk_cl y1 y2 y3 y4 y5) hr
theorem con_X5_pieces (l : Launch) {h h1 : zH} (e1 : h1 = setI h (1, 0) 0 0) (hT1 : TwT h1) {R : Int → Int} {b : Int} (hR : gI h1 (1, 5) = R) (hb : gI h1 (1, 0) 28 = b) (hw : RW R) : Con l mX5_pieces 5 0 0 [zR (some (1, 0))] h (rI fun x h' => x = sPieces R b ∧ Same cC h1 h') zNo := by
  refine Con.ofS (by decide +kernel) (Nat.le_of_ble_eq_true rfl) fun Γ hΓ hno hwf hav => ?_
  have hΓ : Ctx Γ l cX5_pieces RX5 "pieces" 3 (Option.some Jvm.ClassFile.FieldType.int) _ _ 5 _ _ := hΓ
  show SS Γ 0 [some (zR _), none, none] [] _ 0 0
  have hTw := hT1.thr e1
  have hcs := hw.c
  have fc : ∀ h', Same (fun a _ => a = (1, 43)) h1 h' → TwT h' ∧ gI h' (1, 5) = R ∧ gI h' (1, 0) 28 = b := fun h' hS => ⟨hT1.same hS, (hS.row fun _ => n1 (by decide)).trans hR, (hS.2.2 _ _ (n1 (by decide))).trans hb⟩
  have lp2 : ∀ (m : Nat) (c : Int) (h' : zH), c + m = R 0 * R 1 → 0 ≤ c → Same (fun a _ => a = (1, 43)) h1 h' → MkR h' R (sMk R b c) → SS Γ 32 [some (zR (some (1, 0))), some (zI (cntP (fun c => sWorn R b c ∧ ¬ sMk R b c c) c.toNat)), some (zI c)] [] h' 0 0 := by
    intro m
    induction m with
    | zero =>
      intro c h' hc hc0 hS hM
      obtain ⟨hTw, r5, b28⟩ := fc h' hS
      refine zs_iload_n hΓ dX5_pieces_32 (pc' := 33) rfl rfl rfl ?_
      refine zs_aload_n hΓ dX5_pieces_33 (pc' := 34) rfl rfl rfl ?_
      refine zs_callVIP hΓ dX5_pieces_34 (pc' := 37) rfl kX5_128 (con_X5_cells l hTw (by rw [r5]; exact hw)) (tw_t hTw) rfl rfl rfl (Nat.le_of_ble_eq_true rfl) (by omega) (by decide) (by omega) (by omega) ?_ (fun _ _ q _ => False.elim q)
      rw [r5]
      refine zs_icmpge hΓ dX5_pieces_37 (tgt := 80) (by decide) (pc' := 40) rfl (fun c_37 => ?_) (fun c_37 => False.elim (absurd c_37 (by omega)))
      refine zs_iload_n hΓ dX5_pieces_80 (pc' := 81) rfl rfl rfl ?_
      exact zs_iret hΓ dX5_pieces_81 rfl (by omega) (by omega) (⟨_, rfl, by rw [show c = R 0 * R 1 by omega]; rfl, hS.mono fun a j z => by rw [z]; exact cC_in (by omega)⟩)
    | succ m ih =>
      intro c h' hc hc0 hS hM
      obtain ⟨hTw, r5, b28⟩ := fc h' hS
      have hs := cntP_s (fun c => sWorn R b c ∧ ¬ sMk R b c c) hc0
      have hs' := cntP_r (fun c => sWorn R b c ∧ ¬ sMk R b c c) c.toNat
      have hcc : 0 ≤ c ∧ c < R 0 * R 1 := ⟨hc0, by omega⟩
      have skip : (¬ sWorn R b c ∨ sWorn R b c ∧ sMk R b c c) → SS Γ 32 [some (zR (some (1, 0))), some (zI (cntP (fun c => sWorn R b c ∧ ¬ sMk R b c c) c.toNat)), some (zI (c + 1))] [] h' 0 0 := fun z => by
        have h9 := ih (c + 1) h' (by omega) (by omega) hS (fun x x1 x2 => by
          rw [hM x x1 x2]
          apply iB_iff
          rcases z with z | ⟨z, z'⟩
          · exact (sMk_n z x).symm
          · rw [sMk_s hcc z x]
            exact ⟨Or.inl, fun y => y.elim id (fun y => sMk_in z' y)⟩)
        rw [hs, ← iB_f (fun y => z.elim (fun q => q y.1) (fun q => y.2 q.2)), Int.add_zero] at h9
        exact h9
      refine zs_iload_n hΓ dX5_pieces_32 (pc' := 33) rfl rfl rfl ?_
      refine zs_aload_n hΓ dX5_pieces_33 (pc' := 34) rfl rfl rfl ?_
      refine zs_callVIP hΓ dX5_pieces_34 (pc' := 37) rfl kX5_128 (con_X5_cells l hTw (by rw [r5]; exact hw)) (tw_t hTw) rfl rfl rfl (Nat.le_of_ble_eq_true rfl) (by omega) (by decide) (by omega) (by omega) ?_ (fun _ _ q _ => False.elim q)
      rw [r5]
      refine zs_icmpge hΓ dX5_pieces_37 (tgt := 80) (by decide) (pc' := 40) rfl (fun c_37 => False.elim (absurd c_37 (by omega))) (fun c_37 => ?_)
      refine zs_aload_n hΓ dX5_pieces_40 (pc' := 41) rfl rfl rfl ?_
      refine zs_iload_n hΓ dX5_pieces_41 (pc' := 42) rfl rfl rfl ?_
      refine zs_callVIP hΓ dX5_pieces_42 (pc' := 45) rfl kX5_140 (con_X5_isWorn l hTw c (by omega)) (tw_t hTw) rfl rfl rfl (Nat.le_of_ble_eq_true rfl) (by omega) (by decide) (by omega) (by omega) ?_ (fun _ _ q _ => False.elim q)
      rw [r5, b28]
      refine zs_ifeq hΓ dX5_pieces_45 (tgt := 74) (by decide) (pc' := 48) rfl (fun c_45 => ?_) (fun c_45 => ?_)
      · try have c_45 := iB_eq c_45
        refine zs_iinc hΓ dX5_pieces_74 (pc' := 77) rfl (L' := [some (zR _), some (zI _), some (zI _)]) rfl (by unfold inI; omega) (by decide) rfl rfl ?_
        refine zs_goto hΓ dX5_pieces_77 (tgt := 32) (by decide) ?_
        exact skip (Or.inl c_45)
      · try have c_45 := iB_ne c_45
        refine zs_aload_n hΓ dX5_pieces_48 (pc' := 49) rfl rfl rfl ?_
        refine zs_getrE hΓ dX5_pieces_49 (pc' := 52) rfl fX5_89 (i9 := 43) rfl rfl (tw_t hTw) (tw_p43 hTw) ?_
        refine zs_iload_n hΓ dX5_pieces_52 (pc' := 53) rfl rfl rfl ?_
        refine zs_zald hΓ dX5_pieces_53 (pc' := 54) rfl (tw_a43 hTw) (by omega) (by omega) ?_
        refine zs_eqI (hM c hc0 (by omega)) ?_
        refine zs_ifeq hΓ dX5_pieces_54 (tgt := 60) (by decide) (pc' := 57) rfl (fun c_54 => ?_) (fun c_54 => ?_)
        · have c_54 := iB_eq c_54
          refine zs_aload_n hΓ dX5_pieces_60 (pc' := 61) rfl rfl rfl ?_
          refine zs_getrE hΓ dX5_pieces_61 (pc' := 64) rfl fX5_89 (i9 := 43) rfl rfl (tw_t hTw) (tw_p43 hTw) ?_
          refine zs_iload_n hΓ dX5_pieces_64 (pc' := 65) rfl rfl rfl ?_
          refine zs_iconst hΓ dX5_pieces_65 (pc' := 66) rfl ⟨by decide, by decide⟩ ?_
          refine zs_zast hΓ dX5_pieces_66 (pc' := 67) rfl (tw_a43 hTw) (show (0 : Int) ≤ 1 by decide) (by omega) (by omega) (by omega) ?_
          refine zs_nm (fun h3 e3 => ?_)
          have hTw : TwT h3 := by rw [e3]; exact hTw
          have hS3 : Same (fun a _ => a = (1, 43)) h1 h3 := by rw [e3]; exact hS.set rfl
          have m3 : MkR h3 R (fun x => sMk R b c x ∨ x = c) := fun x x1 x2 => by
            rw [e3, gI_setI]
            by_cases e : x = c
            · rw [if_pos ⟨rfl, e⟩]; exact iB_t (Or.inr e)
            · rw [if_neg (fun z => e z.2), hM x x1 x2]
              exact iB_iff ⟨Or.inl, fun z => z.resolve_right e⟩
          obtain ⟨-, r53, b283⟩ := fc h3 hS3
          refine zs_iinc hΓ dX5_pieces_67 (pc' := 70) rfl (L' := [some (zR _), some (zI _), some (zI _)]) rfl (by unfold inI; omega) (by decide) rfl rfl ?_
          refine zs_aload_n hΓ dX5_pieces_70 (pc' := 71) rfl rfl rfl ?_
          refine zs_callVV hΓ dX5_pieces_71 (pc' := 74) rfl kX5_442 (con_X5_spread l hTw r53 b283 hw m3 (fun x hx => hx.elim sMk_worn (fun z => by rw [z]; exact ⟨hcc, c_45⟩))) (tw_t hTw) rfl rfl rfl (Nat.le_of_ble_eq_true rfl) (by omega) (by decide) (by omega) (by omega) (fun h_71 q_71 k_71 => ?_) (fun _ _ q _ => False.elim q)
          obtain ⟨p1, p2⟩ := q_71
          refine zs_iinc hΓ dX5_pieces_74 (pc' := 77) rfl (L' := [some (zR _), some (zI _), some (zI _)]) rfl (by unfold inI; omega) (by decide) rfl rfl ?_
          refine zs_goto hΓ dX5_pieces_77 (tgt := 32) (by decide) ?_
          have h9 := ih (c + 1) h_71 (by omega) (by omega) (hS3.tr p1) (fun x x1 x2 => by
            rw [p2 x x1 x2]
            apply iB_iff
            rw [sMk_s hcc c_45 x]
            constructor
            · intro z
              exact sRch_min (M' := fun x => sMk R b c x ∨ sRch R b (fun y => y = c) x) (fun y hy => hy.imp id (fun q => ⟨0, q⟩)) (fun y w y1 y2 y3 y4 y5 => y5.imp (fun q => sMk_cl y1 y2 y3 y4 q) (fun q => sRch_st y1 y2 y3 y4 q)) z
            · rintro (z | z)
              · exact ⟨0, Or.inl z⟩
              · exact sRch_min (M' := sRch R b (fun x => sMk R b c x ∨ x = c)) (fun y hy => ⟨0, Or.inr hy⟩) (fun y w y1 y2 y3 y4 y5 => sRch_st y1 y2 y3 y4 y5) z)
          rw [hs, ← iB_t ⟨c_45, c_54⟩] at h9
          exact h9
        · have c_54 := iB_ne c_54
          refine zs_goto hΓ dX5_pieces_57 (tgt := 74) (by decide) ?_
          refine zs_iinc hΓ dX5_pieces_74 (pc' := 77) rfl (L' := [some (zR _), some (zI _), some (zI _)]) rfl (by unfold inI; omega) (by decide) rfl rfl ?_
          refine zs_goto hΓ dX5_pieces_77 (tgt := 32) (by decide) ?_
          exact skip (Or.inr ⟨c_45, c_54⟩)
  have lp1 : ∀ (m : Nat) (c : Int) (h' : zH), c + m = R 0 * R 1 → 0 ≤ c → Same (fun a _ => a = (1, 43)) h1 h' → (∀ x, 0 ≤ x → x < c → gI h' (1, 43) x = 0) → SS Γ 7 [some (zR (some (1, 0))), some (zI c), none] [] h' 0 0 := by
    intro m
    induction m with
    | zero =>
      intro c h' hc hc0 hS hM
      obtain ⟨hTw, r5, b28⟩ := fc h' hS
      refine zs_iload_n hΓ dX5_pieces_7 (pc' := 8) rfl rfl rfl ?_
      refine zs_aload_n hΓ dX5_pieces_8 (pc' := 9) rfl rfl rfl ?_
      refine zs_callVIP hΓ dX5_pieces_9 (pc' := 12) rfl kX5_128 (con_X5_cells l hTw (by rw [r5]; exact hw)) (tw_t hTw) rfl rfl rfl (Nat.le_of_ble_eq_true rfl) (by omega) (by decide) (by omega) (by omega) ?_ (fun _ _ q _ => False.elim q)
      rw [r5]
      refine zs_icmpge hΓ dX5_pieces_12 (tgt := 28) (by decide) (pc' := 15) rfl (fun c_12 => ?_) (fun c_12 => False.elim (absurd c_12 (by omega)))
      refine zs_iconst hΓ dX5_pieces_28 (pc' := 29) rfl ⟨by decide, by decide⟩ ?_
      refine zs_istore_n hΓ dX5_pieces_29 (pc' := 30) rfl (L' := [some (zR _), some (zI _), none]) rfl (by decide) rfl rfl ?_
      refine zs_iconst hΓ dX5_pieces_30 (pc' := 31) rfl ⟨by decide, by decide⟩ ?_
      refine zs_istore_n hΓ dX5_pieces_31 (pc' := 32) rfl (L' := [some (zR _), some (zI _), some (zI _)]) rfl (by decide) rfl rfl ?_
      exact lp2 (R 0 * R 1).toNat 0 h' (by omega) (by omega) hS (fun x x1 x2 => (hM x x1 (by omega)).trans (iB_f (fun ⟨c', k1, _⟩ => by omega)))
    | succ m ih =>
      intro c h' hc hc0 hS hM
      obtain ⟨hTw, r5, b28⟩ := fc h' hS
      refine zs_iload_n hΓ dX5_pieces_7 (pc' := 8) rfl rfl rfl ?_
      refine zs_aload_n hΓ dX5_pieces_8 (pc' := 9) rfl rfl rfl ?_
      refine zs_callVIP hΓ dX5_pieces_9 (pc' := 12) rfl kX5_128 (con_X5_cells l hTw (by rw [r5]; exact hw)) (tw_t hTw) rfl rfl rfl (Nat.le_of_ble_eq_true rfl) (by omega) (by decide) (by omega) (by omega) ?_ (fun _ _ q _ => False.elim q)
      rw [r5]
      refine zs_icmpge hΓ dX5_pieces_12 (tgt := 28) (by decide) (pc' := 15) rfl (fun c_12 => False.elim (absurd c_12 (by omega))) (fun c_12 => ?_)
      refine zs_aload_n hΓ dX5_pieces_15 (pc' := 16) rfl rfl rfl ?_
      refine zs_getrE hΓ dX5_pieces_16 (pc' := 19) rfl fX5_89 (i9 := 43) rfl rfl (tw_t hTw) (tw_p43 hTw) ?_
      refine zs_iload_n hΓ dX5_pieces_19 (pc' := 20) rfl rfl rfl ?_
      refine zs_iconst hΓ dX5_pieces_20 (pc' := 21) rfl ⟨by decide, by decide⟩ ?_
      refine zs_zast hΓ dX5_pieces_21 (pc' := 22) rfl (tw_a43 hTw) (show (0 : Int) ≤ 1 by decide) (by omega) (by omega) (by omega) ?_
      refine zs_iinc hΓ dX5_pieces_22 (pc' := 25) rfl (L' := [some (zR _), some (zI _), none]) rfl (by unfold inI; omega) (by decide) rfl rfl ?_
      refine zs_goto hΓ dX5_pieces_25 (tgt := 7) (by decide) ?_
      exact ih (c + 1) _ (by omega) (by omega) (hS.set rfl) (fun x x1 x2 => by rw [gI_setI]; by_cases e : x = c; rw [if_pos ⟨rfl, e⟩]; rw [if_neg (fun z => e z.2)]; exact hM x x1 (by omega))
  refine zs_aload_n hΓ dX5_pieces_0 (pc' := 1) rfl rfl rfl ?_
  refine zs_iconst hΓ dX5_pieces_1 (pc' := 2) rfl ⟨by decide, by decide⟩ ?_
  refine zs_puti hΓ dX5_pieces_2 (pc' := 5) rfl fX5_1 (fun q hq => (by cases hq; exact Or.inl rfl)) (i9 := 0) rfl trivial (tw_t hTw) (show (0 : Int) ≤ 1 by decide) ?_
  rw [← e1]; have hTw := hT1
  refine zs_iconst hΓ dX5_pieces_5 (pc' := 6) rfl ⟨by decide, by decide⟩ ?_
  refine zs_istore_n hΓ dX5_pieces_6 (pc' := 7) rfl (L' := [some (zR _), some (zI _), none]) rfl (by decide) rfl rfl ?_
  exact lp1 (R 0 * R 1).toNat 0 h1 (by omega) (by omega) (Same.rf _ _) (fun x x1 x2 => by omega)
