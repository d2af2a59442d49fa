/-! THE TWIN, T: shortest ways -/
set_option maxRecDepth 100000
/-- v is the cost of a way of at most n steps to c: ok cells are entered, k c d the cost of entering c from the cell beside it by d, B where one begins -/
def rchV (R : Int → Int) (ok : Int → Prop) (k : Int → Int → Int) (B : Int → Int → Prop) : Nat → Int → Int → Prop
  | 0, c, v => B c v
  | n + 1, c, v => rchV R ok k B n c v ∨ ((0 ≤ c ∧ c < R 0 * R 1) ∧ ok c ∧ ∃ d v', (0 ≤ d ∧ d < 8) ∧ 0 ≤ sBeside R c d ∧ rchV R ok k B n (sBeside R c d) v' ∧ v = v' + k c d)
def sVal (R : Int → Int) (ok : Int → Prop) (k : Int → Int → Int) (B : Int → Int → Prop) (c v : Int) : Prop := ∃ n, rchV R ok k B n c v
theorem sVal_b {R : Int → Int} {ok : Int → Prop} {k : Int → Int → Int} {B : Int → Int → Prop} {c v : Int} (h : B c v) : sVal R ok k B c v := ⟨0, h⟩
theorem sVal_st {R : Int → Int} {ok : Int → Prop} {k : Int → Int → Int} {B : Int → Int → Prop} {c d v : Int} (hc : 0 ≤ c ∧ c < R 0 * R 1) (ho : ok c) (hd : 0 ≤ d ∧ d < 8) (hb : 0 ≤ sBeside R c d) (h : sVal R ok k B (sBeside R c d) v) : sVal R ok k B c (v + k c d) := by
  obtain ⟨n, h⟩ := h
  exact ⟨n + 1, Or.inr ⟨hc, ho, d, v, hd, hb, h, rfl⟩⟩
/-- the least cost -/
def IsL (R : Int → Int) (ok : Int → Prop) (k : Int → Int → Int) (B : Int → Int → Prop) (c v : Int) : Prop := sVal R ok k B c v ∧ ∀ v', sVal R ok k B c v' → v ≤ v'
noncomputable def sDst (R : Int → Int) (ok : Int → Prop) (k : Int → Int → Int) (B : Int → Int → Prop) (c : Int) : Int := @dite Int (∃ v, IsL R ok k B c v) (Classical.propDecidable _) (fun h => Classical.choose h) (fun _ => -1)
theorem sDst_is {R : Int → Int} {ok : Int → Prop} {k : Int → Int → Int} {B : Int → Int → Prop} {c v : Int} (h : IsL R ok k B c v) : sDst R ok k B c = v := by
  have h9 : ∃ v, IsL R ok k B c v := ⟨v, h⟩
  unfold sDst
  rw [dif_pos h9]
  have h8 := Classical.choose_spec h9
  have q1 := h8.2 v h.1
  have q2 := h.2 _ h8.1
  omega
theorem sDst_no {R : Int → Int} {ok : Int → Prop} {k : Int → Int → Int} {B : Int → Int → Prop} {c : Int} (h : ∀ v, ¬ sVal R ok k B c v) : sDst R ok k B c = -1 := by
  unfold sDst
  rw [dif_neg (fun ⟨v, hv⟩ => h v hv.1)]
def sumF (a : Int → Int) : Nat → Int
  | 0 => 0
  | n + 1 => sumF a n + a n
theorem sumF_up {a : Int → Int} {c v : Int} : ∀ n : Nat, (0 ≤ c ∧ c < n) → sumF (upR a c v) n = sumF a n - a c + v
  | 0, h => absurd h (by omega)
  | n + 1, h => by
    have hlo : ∀ m : Nat, (m : Int) ≤ c → sumF (upR a c v) m = sumF a m := by
      intro m
      induction m with
      | zero => intro _; rfl
      | succ m ih =>
        intro hm
        show sumF (upR a c v) m + upR a c v m = sumF a m + a m
        rw [ih (by omega), upR_n a v (by omega)]
    show sumF (upR a c v) n + upR a c v n = sumF a n + a n - a c + v
    by_cases e : c = n
    · rw [hlo n (by omega), e, upR_s]; omega
    · rw [sumF_up n (by omega), upR_n a v (by omega)]; omega
theorem sumF_nn {a : Int → Int} : ∀ n : Nat, (∀ c : Int, 0 ≤ c → c < n → 0 ≤ a c) → 0 ≤ sumF a n
  | 0, _ => Int.le_refl 0
  | n + 1, h => by
    have h1 := sumF_nn n (fun c c1 c2 => h c c1 (by omega))
    have h2 := h n (by omega) (by omega)
    show 0 ≤ sumF a n + a n
    omega
/-- numbers on the cells on their way to the least costs: F stands for none; M is the most that one begins with, K the most that a step costs -/
def InvV (R : Int → Int) (ok : Int → Prop) (k : Int → Int → Int) (B : Int → Int → Prop) (F M K : Int) (a : Int → Int) : Prop := (∀ c, 0 ≤ c → c < R 0 * R 1 → a c < F → sVal R ok k B c (a c)) ∧ (∀ c, 0 ≤ c → c < R 0 * R 1 → 0 ≤ a c ∧ a c ≤ F) ∧ (∀ c v, B c v → (0 ≤ c ∧ c < R 0 * R 1) ∧ a c ≤ v ∧ v < F) ∧ (∀ c, 0 ≤ c → c < R 0 * R 1 → a c < F → a c ≤ M + K * cntP (fun x => a x < F) (R 0 * R 1).toNat)
theorem InvV.sd {R : Int → Int} {ok : Int → Prop} {k : Int → Int → Int} {B : Int → Int → Prop} {F M K : Int} {a : Int → Int} (W : InvV R ok k B F M K a) : ∀ c, 0 ≤ c → c < R 0 * R 1 → a c < F → sVal R ok k B c (a c) := W.1
theorem InvV.rg {R : Int → Int} {ok : Int → Prop} {k : Int → Int → Int} {B : Int → Int → Prop} {F M K : Int} {a : Int → Int} (W : InvV R ok k B F M K a) : ∀ c, 0 ≤ c → c < R 0 * R 1 → 0 ≤ a c ∧ a c ≤ F := W.2.1
theorem InvV.bs {R : Int → Int} {ok : Int → Prop} {k : Int → Int → Int} {B : Int → Int → Prop} {F M K : Int} {a : Int → Int} (W : InvV R ok k B F M K a) : ∀ c v, B c v → (0 ≤ c ∧ c < R 0 * R 1) ∧ a c ≤ v ∧ v < F := W.2.2.1
theorem InvV.bd {R : Int → Int} {ok : Int → Prop} {k : Int → Int → Int} {B : Int → Int → Prop} {F M K : Int} {a : Int → Int} (W : InvV R ok k B F M K a) : ∀ c, 0 ≤ c → c < R 0 * R 1 → a c < F → a c ≤ M + K * cntP (fun x => a x < F) (R 0 * R 1).toNat := W.2.2.2
theorem InvV.mk {R : Int → Int} {ok : Int → Prop} {k : Int → Int → Int} {B : Int → Int → Prop} {F M K : Int} {a : Int → Int} (m_sd : ∀ c, 0 ≤ c → c < R 0 * R 1 → a c < F → sVal R ok k B c (a c)) (m_rg : ∀ c, 0 ≤ c → c < R 0 * R 1 → 0 ≤ a c ∧ a c ≤ F) (m_bs : ∀ c v, B c v → (0 ≤ c ∧ c < R 0 * R 1) ∧ a c ≤ v ∧ v < F) (m_bd : ∀ c, 0 ≤ c → c < R 0 * R 1 → a c < F → a c ≤ M + K * cntP (fun x => a x < F) (R 0 * R 1).toNat) : InvV R ok k B F M K a := ⟨m_sd, m_rg, m_bs, m_bd⟩
theorem InvV.step {R : Int → Int} {ok : Int → Prop} {k : Int → Int → Int} {B : Int → Int → Prop} {F M K : Int} {a : Int → Int} (I : InvV R ok k B F M K a) {c d : Int} (hc : 0 ≤ c ∧ c < R 0 * R 1) (ho : ok c) (hd : 0 ≤ d ∧ d < 8) (hw : RW R) (hb : 0 ≤ sBeside R c d) (hk : 0 ≤ k c d ∧ k c d ≤ K) (hlt : a (sBeside R c d) + k c d < a c) : InvV R ok k B F M K (upR a c (a (sBeside R c d) + k c d)) ∧ sumF (upR a c (a (sBeside R c d) + k c d)) (R 0 * R 1).toNat < sumF a (R 0 * R 1).toNat := by
  have hbr := (sBeside_r hw (c := c) (d := d)).resolve_left (by omega)
  have ro := I.rg _ hbr.1 hbr.2
  have rc := I.rg _ hc.1 hc.2
  have hof : a (sBeside R c d) < F := by omega
  have so := I.sd _ hbr.1 hbr.2 hof
  have bo := I.bd _ hbr.1 hbr.2 hof
  generalize hv : a (sBeside R c d) + k c d = v at hlt ⊢
  have hcnt : cntP (fun x => a x < F) (R 0 * R 1).toNat ≤ cntP (fun x => upR a c v x < F) (R 0 * R 1).toNat := cntP_le _ (fun i _ _ h => by
    by_cases e : i = c
    · rw [e, upR_s]; omega
    · rw [upR_n a v e]; exact h)
  have hK : 0 ≤ K := by omega
  have hmul := Int.mul_le_mul_of_nonneg_left hcnt hK
  refine ⟨InvV.mk (fun x x1 x2 h => ?_) (fun x x1 x2 => ?_) (fun x w hx => ?_) (fun x x1 x2 h => ?_), ?_⟩
  · by_cases e : x = c
    · rw [e, upR_s, ← hv]
      exact sVal_st hc ho hd hb so
    · rw [upR_n a v e] at h ⊢
      exact I.sd x x1 x2 h
  · by_cases e : x = c
    · rw [e, upR_s]; omega
    · rw [upR_n a v e]; exact I.rg x x1 x2
  · have := I.bs x w hx
    refine ⟨this.1, ?_, this.2.2⟩
    by_cases e : x = c
    · rw [e, upR_s]; rw [e] at this; omega
    · rw [upR_n a v e]; exact this.2.1
  · by_cases e : x = c
    · rw [e, upR_s]
      by_cases e2 : a c < F
      · have := I.bd c hc.1 hc.2 e2
        omega
      · have h1 := cntP_lt (p := fun x => a x < F) (q := fun x => upR a c v x < F) (j := c) ⟨by rw [upR_s]; omega, e2⟩ (R 0 * R 1).toNat (by omega) (fun i _ _ h => by
          by_cases e : i = c
          · rw [e, upR_s]; omega
          · rw [upR_n a v e]; exact h)
        have h2 : K * (cntP (fun x => a x < F) (R 0 * R 1).toNat + 1) ≤ K * cntP (fun x => upR a c v x < F) (R 0 * R 1).toNat := Int.mul_le_mul_of_nonneg_left (by omega) hK
        rw [Int.mul_add, Int.mul_one] at h2
        omega
    · rw [upR_n a v e] at h ⊢
      have := I.bd x x1 x2 h
      omega
  · rw [sumF_up _ (by omega)]
    omega
/-- nothing more to better -/
def ClsV (R : Int → Int) (ok : Int → Prop) (k : Int → Int → Int) (a : Int → Int) (c d : Int) : Prop := ok c → 0 ≤ sBeside R c d → a c ≤ a (sBeside R c d) + k c d
theorem InvV.fin {R : Int → Int} {ok : Int → Prop} {k : Int → Int → Int} {B : Int → Int → Prop} {F M K : Int} {a : Int → Int} (I : InvV R ok k B F M K a) (hw : RW R) (hK : 0 ≤ K) (hk : ∀ c d, 0 ≤ k c d ∧ k c d ≤ K) (hF : M + K * 257 < F) (hcl : ∀ c d, (0 ≤ c ∧ c < R 0 * R 1) → (0 ≤ d ∧ d < 8) → ClsV R ok k a c d) {c : Int} (hc : 0 ≤ c ∧ c < R 0 * R 1) : (a c < F ∧ IsL R ok k B c (a c)) ∨ (a c = F ∧ ∀ v, ¬ sVal R ok k B c v) := by
  have hcs := hw.c
  have hbd : ∀ c, 0 ≤ c → c < R 0 * R 1 → a c < F → a c ≤ M + K * 256 := fun c c1 c2 h => by
    have h1 := I.bd c c1 c2 h
    have h2 := cntP_r (fun x => a x < F) (R 0 * R 1).toNat
    have h3 : K * cntP (fun x => a x < F) (R 0 * R 1).toNat ≤ K * 256 := Int.mul_le_mul_of_nonneg_left (by omega) hK
    omega
  have key : ∀ (n : Nat) (c v : Int), rchV R ok k B n c v → (0 ≤ c ∧ c < R 0 * R 1) ∧ a c ≤ v ∧ a c < F := by
    intro n
    induction n with
    | zero =>
      intro c v h
      have := I.bs c v h
      exact ⟨this.1, this.2.1, by omega⟩
    | succ n ih =>
      intro c v h
      rcases h with h | ⟨h1, h2, d, v', h3, h4, h5, h6⟩
      · exact ih c v h
      · obtain ⟨g1, g2, g3⟩ := ih _ _ h5
        have g4 := hcl c d h1 h3 h2 h4
        have g5 := hbd _ g1.1 g1.2 g3
        have g6 := hk c d
        exact ⟨h1, by omega, by omega⟩
  by_cases e : a c < F
  · exact Or.inl ⟨e, I.sd c hc.1 hc.2 e, fun v ⟨n, h⟩ => (key n c v h).2.1⟩
  · exact Or.inr ⟨by have := (I.rg c hc.1 hc.2).2; omega, fun v ⟨n, h⟩ => e (key n c v h).2.2⟩
abbrev kWay : Int → Int → Int := fun _ d => if d % 2 = 0 then 10 else 14
abbrev okShort (R : Int → Int) (b a z : Int) (firm : Prop) (c : Int) : Prop := sBears R c ∧ (firm → c = a ∨ c = z ∨ ¬ sGreen R c ∨ sWorn R b c)
noncomputable def sShort (R : Int → Int) (b a z : Int) (firm : Prop) : Int := sDst R (okShort R b a z firm) kWay (fun c v => c = a ∧ v = 0) z
theorem con_X5_shortest (l : Launch) {h : zH} (hTw : TwT h) {R : Int → Int} {b : Int} (hR : gI h (1, 5) = R) (hb : gI h (1, 0) 28 = b) (hw : RW R) (a z : Int) (firm : Prop) (ha : 0 ≤ a ∧ a < R 0 * R 1) (hz : 0 ≤ z ∧ z < R 0 * R 1) : Con l mX5_shortest 4 0 0 [zR (some (1, 0)), zI a, zI z, zI (iB firm)] h (rI fun x h' => ((x < 10000000 ∧ IsL R (okShort R b a z firm) kWay (fun c v => c = a ∧ v = 0) z x) ∨ (x = 10000000 ∧ ∀ v, ¬ sVal R (okShort R b a z firm) kWay (fun c v => c = a ∧ v = 0) z v)) ∧ Same (fun a _ => a = (1, 48)) h h') zNo := by
  refine Con.ofS (by decide +kernel) (Nat.le_of_ble_eq_true rfl) fun Γ hΓ hno hwf hav => ?_
  have hΓ : Ctx Γ l cX5_shortest RX5 "shortest" 9 (Option.some Jvm.ClassFile.FieldType.int) _ _ 4 _ _ := hΓ
  show SS Γ 0 [some (zR _), some (zI _), some (zI _), some (zI _), none, none, none, none, none] [] _ 0 0
  have hcs := hw.c
  have T0 := hTw
  generalize hok : okShort R b a z firm = ok at hΓ
  have oke : ∀ c, ok c ↔ sBears R c ∧ (firm → c = a ∨ c = z ∨ ¬ sGreen R c ∨ sWorn R b c) := fun c => by rw [← hok]
  generalize hB : (fun c v : Int => c = a ∧ v = 0) = BB at hΓ
  have BBe : ∀ c v, BB c v ↔ c = a ∧ v = 0 := fun c v => by rw [← hB]
  have hf01 := iB_01 firm
  have hkk : ∀ c d, 0 ≤ kWay c d ∧ kWay c d ≤ 14 := fun c d => by unfold kWay; split <;> decide
  have fc : ∀ h', Same (fun a _ => a = (1, 48)) h h' → TwT h' ∧ gI h' (1, 5) = R ∧ gI h' (1, 0) 28 = b := fun h' hS => ⟨T0.same hS, (hS.row fun _ => n1 (by decide)).trans hR, (hS.2.2 _ _ (n1 (by decide))).trans hb⟩
  have outer : ∀ (U : Nat) (h' : zH) (more : Int), sumF (gI h' (1, 48)) (R 0 * R 1).toNat ≤ U → Same (fun a _ => a = (1, 48)) h h' → InvV R ok kWay BB 10000000 0 14 (gI h' (1, 48)) → ((more = 0 ∧ ∀ c d, (0 ≤ c ∧ c < R 0 * R 1) → (0 ≤ d ∧ d < 8) → ClsV R ok kWay (gI h' (1, 48)) c d) ∨ more = 1) → SS Γ 38 [some (zR (some (1, 0))), some (zI a), some (zI z), some (zI (iB firm)), some (zI more), none, none, none, none] [] h' 0 0 := by
    intro U
    induction U using Nat.strongRecOn with
    | _ U ihU =>
      intro h' more hU hS I hmo
      obtain ⟨hTw, r5, b28⟩ := fc h' hS
      have done : ∀ h'' (mo : Int), Same (fun a _ => a = (1, 48)) h h'' → InvV R ok kWay BB 10000000 0 14 (gI h'' (1, 48)) → mo = 0 → (∀ c d, (0 ≤ c ∧ c < R 0 * R 1) → (0 ≤ d ∧ d < 8) → ClsV R ok kWay (gI h'' (1, 48)) c d) → SS Γ 38 [some (zR (some (1, 0))), some (zI a), some (zI z), some (zI (iB firm)), some (zI mo), none, none, none, none] [] h'' 0 0 := by
        intro h'' mo hS2 I2 hmo2 hcl
        obtain ⟨hTw, r5, b28⟩ := fc h'' hS2
        have hf := I2.fin hw (by decide) hkk (by decide) hcl hz
        refine zs_iload hΓ dX5_shortest_38 (pc' := 40) rfl rfl ?_
        refine zs_ifeq hΓ dX5_shortest_40 (tgt := 201) (by decide) (pc' := 43) rfl (fun c_40 => ?_) (fun c_40 => False.elim (absurd hmo2 c_40))
        refine zs_aload_n hΓ dX5_shortest_201 (pc' := 202) rfl rfl rfl ?_
        refine zs_getrE hΓ dX5_shortest_202 (pc' := 205) rfl fX5_104 (i9 := 48) rfl rfl (tw_t hTw) (tw_p48 hTw) ?_
        refine zs_iload_n hΓ dX5_shortest_205 (pc' := 206) rfl rfl rfl ?_
        refine zs_iald hΓ dX5_shortest_206 (pc' := 207) rfl (tw_a48 hTw) (by omega) (by omega) ?_
        exact zs_iret hΓ dX5_shortest_207 rfl (by omega) (by omega) (⟨_, rfl, hf, hS2⟩)
      -- one sweep
      have cells : ∀ (m : Nat) (c mo : Int) (h'' : zH), c + m = R 0 * R 1 → 0 ≤ c → Same (fun a _ => a = (1, 48)) h h'' → InvV R ok kWay BB 10000000 0 14 (gI h'' (1, 48)) → ((mo = 0 ∧ (∀ x d, 0 ≤ x → x < c → (0 ≤ d ∧ d < 8) → ClsV R ok kWay (gI h'' (1, 48)) x d)) ∨ (mo = 1 ∧ sumF (gI h'' (1, 48)) (R 0 * R 1).toNat < sumF (gI h' (1, 48)) (R 0 * R 1).toNat)) → sumF (gI h'' (1, 48)) (R 0 * R 1).toNat ≤ sumF (gI h' (1, 48)) (R 0 * R 1).toNat → SS Γ 49 [some (zR (some (1, 0))), some (zI a), some (zI z), some (zI (iB firm)), some (zI mo), some (zI c), none, none, none] [] h'' 0 0 := by
        intro m
        induction m with
        | zero =>
          intro c mo h'' hc hc0 hS2 I2 hmo2 hle
          obtain ⟨hTw, r5, b28⟩ := fc h'' hS2
          have fin : SS Γ 38 [some (zR (some (1, 0))), some (zI a), some (zI z), some (zI (iB firm)), some (zI mo), none, none, none, none] [] h'' 0 0 := by
            rcases hmo2 with ⟨q1, q2⟩ | ⟨q1, q2⟩
            · exact done h'' mo hS2 I2 q1 (fun x d x1 x2 => q2 x d x1.1 (by omega) x2)
            · have hnn := sumF_nn (a := gI h'' (1, 48)) (R 0 * R 1).toNat (fun x x1 x2 => (I2.rg x x1 (by omega)).1)
              exact ihU (sumF (gI h'' (1, 48)) (R 0 * R 1).toNat).toNat (by omega) h'' mo (by omega) hS2 I2 (Or.inr q1)
          refine zs_iload hΓ dX5_shortest_49 (pc' := 51) rfl rfl ?_
          refine zs_aload_n hΓ dX5_shortest_51 (pc' := 52) rfl rfl rfl ?_
          refine zs_callVIP hΓ dX5_shortest_52 (pc' := 55) rfl kX5_128 (con_X5_cells l hTw (by rw [r5]; exact hw)) (tw_t hTw) rfl rfl rfl (Nat.le_of_ble_eq_true rfl) (by omega) (by decide) (by omega) (by omega) ?_ (fun _ _ q _ => False.elim q)
          rw [r5]
          refine zs_icmpge hΓ dX5_shortest_55 (tgt := 198) (by decide) (pc' := 58) rfl (fun c_55 => ?_) (fun c_55 => False.elim (absurd c_55 (by omega)))
          refine zs_goto hΓ dX5_shortest_198 (tgt := 38) (by decide) ?_
          refine zs_drop 5 (L' := [some (zR _), some (zI _), some (zI _), some (zI _), some (zI _), none, none, none, none]) rfl ?_
          exact fin
        | succ m ih =>
          intro c mo h'' hc hc0 hS2 I2 hmo2 hle
          obtain ⟨hTw, r5, b28⟩ := fc h'' hS2
          have hcc : 0 ≤ c ∧ c < R 0 * R 1 := ⟨hc0, by omega⟩
          have skip : ¬ ok c → SS Γ 49 [some (zR (some (1, 0))), some (zI a), some (zI z), some (zI (iB firm)), some (zI mo), some (zI (c + 1)), none, none, none] [] h'' 0 0 := fun hno => ih (c + 1) mo h'' (by omega) (by omega) hS2 I2 (hmo2.imp (fun q => ⟨q.1, fun x d x1 x2 x3 => by by_cases e : x = c; rw [e]; exact fun z => absurd z hno; exact q.2 x d x1 (by omega) x3⟩) id) hle
          -- the ways from one cell
          have ways : ok c → ∀ (m8 : Nat) (d mo : Int) (h3 : zH), d + m8 = 8 → 0 ≤ d → Same (fun a _ => a = (1, 48)) h h3 → InvV R ok kWay BB 10000000 0 14 (gI h3 (1, 48)) → ((mo = 0 ∧ (∀ x d, 0 ≤ x → x < c → (0 ≤ d ∧ d < 8) → ClsV R ok kWay (gI h3 (1, 48)) x d) ∧ ∀ d', 0 ≤ d' → d' < d → ClsV R ok kWay (gI h3 (1, 48)) c d') ∨ (mo = 1 ∧ sumF (gI h3 (1, 48)) (R 0 * R 1).toNat < sumF (gI h' (1, 48)) (R 0 * R 1).toNat)) → sumF (gI h3 (1, 48)) (R 0 * R 1).toNat ≤ sumF (gI h' (1, 48)) (R 0 * R 1).toNat → SS Γ 107 [some (zR (some (1, 0))), some (zI a), some (zI z), some (zI (iB firm)), some (zI mo), some (zI c), some (zI d), none, none] [] h3 0 0 := by
            intro hokc m8
            induction m8 with
            | zero =>
              intro d mo h3 hd hd0 hS3 I3 hmo3 hle3
              refine zs_iload hΓ dX5_shortest_107 (pc' := 109) rfl rfl ?_
              refine zs_bipush hΓ dX5_shortest_109 (pc' := 111) rfl ⟨by decide, by decide⟩ ?_
              refine zs_icmpge hΓ dX5_shortest_111 (tgt := 192) (by decide) (pc' := 114) rfl (fun c_111 => ?_) (fun c_111 => False.elim (absurd c_111 (by omega)))
              refine zs_iinc hΓ dX5_shortest_192 (pc' := 195) rfl (L' := [some (zR _), some (zI _), some (zI _), some (zI _), some (zI _), some (zI _), some (zI _), none, none]) rfl (by unfold inI; omega) (by decide) rfl rfl ?_
              refine zs_goto hΓ dX5_shortest_195 (tgt := 49) (by decide) ?_
              refine zs_drop 6 (L' := [some (zR _), some (zI _), some (zI _), some (zI _), some (zI _), some (zI _), none, none, none]) rfl ?_
              exact ih (c + 1) mo h3 (by omega) (by omega) hS3 I3 (hmo3.imp (fun q => ⟨q.1, fun x d' x1 x2 x3 => by by_cases e : x = c; rw [e]; exact q.2.2 d' x3.1 (by omega); exact q.2.1 x d' x1 (by omega) x3⟩) id) hle3
            | succ m8 ih8 =>
              intro d mo h3 hd hd0 hS3 I3 hmo3 hle3
              obtain ⟨hTw, r5, b28⟩ := fc h3 hS3
              have hbr := sBeside_r hw (c := c) (d := d)
              have rc := I3.rg c hcc.1 hcc.2
              have next : ClsV R ok kWay (gI h3 (1, 48)) c d → SS Γ 107 [some (zR (some (1, 0))), some (zI a), some (zI z), some (zI (iB firm)), some (zI mo), some (zI c), some (zI (d + 1)), none, none] [] h3 0 0 := fun hc9 => ih8 (d + 1) mo h3 (by omega) (by omega) hS3 I3 (hmo3.imp (fun q => ⟨q.1, q.2.1, fun d' d1 d2 => by by_cases e : d' = d; rw [e]; exact hc9; exact q.2.2 d' d1 (by omega)⟩) id) hle3
              by_cases hbes : 0 ≤ sBeside R c d
              · have hbr := hbr.resolve_left (by omega)
                have ro := I3.rg _ hbr.1 hbr.2
                have hit : gI h3 (1, 48) (sBeside R c d) + kWay c d < gI h3 (1, 48) c → SS Γ 107 [some (zR (some (1, 0))), some (zI a), some (zI z), some (zI (iB firm)), some (zI 1), some (zI c), some (zI (d + 1)), none, none] [] (setI h3 (1, 48) c (gI h3 (1, 48) (sBeside R c d) + kWay c d)) 0 0 := fun hlt => by
                  obtain ⟨s1, s2⟩ := I3.step hcc hokc ⟨hd0, by omega⟩ hw hbes (hkk c d) hlt
                  exact ih8 (d + 1) 1 _ (by omega) (by omega) (hS3.set rfl) (by rw [gI_up]; exact s1) (Or.inr ⟨rfl, by rw [gI_up]; omega⟩) (by rw [gI_up]; omega)
                have fin : ∀ kk : Int, kk = kWay c d → SS Γ 156 [some (zR (some (1, 0))), some (zI a), some (zI z), some (zI (iB firm)), some (zI mo), some (zI c), some (zI d), some (zI (sBeside R c d)), none] [zI kk, zI (gI h3 (1, 48) (sBeside R c d))] h3 0 0 := by
                  intro kk hkk9
                  have hk9 := hkk c d
                  subst hkk9
                  refine zs_iadd hΓ dX5_shortest_156 (pc' := 157) rfl (by unfold inI; omega) ?_
                  refine zs_istore hΓ dX5_shortest_157 (pc' := 159) rfl (L' := [some (zR _), some (zI _), some (zI _), some (zI _), some (zI _), some (zI _), some (zI _), some (zI _), some (zI _)]) (by decide) rfl rfl ?_
                  refine zs_iload hΓ dX5_shortest_159 (pc' := 161) rfl rfl ?_
                  refine zs_aload_n hΓ dX5_shortest_161 (pc' := 162) rfl rfl rfl ?_
                  refine zs_getrE hΓ dX5_shortest_162 (pc' := 165) rfl fX5_104 (i9 := 48) rfl rfl (tw_t hTw) (tw_p48 hTw) ?_
                  refine zs_iload hΓ dX5_shortest_165 (pc' := 167) rfl rfl ?_
                  refine zs_iald hΓ dX5_shortest_167 (pc' := 168) rfl (tw_a48 hTw) (by omega) (by omega) ?_
                  refine zs_icmplt hΓ dX5_shortest_168 (tgt := 174) (by decide) (pc' := 171) rfl (fun c_168 => ?_) (fun c_168 => ?_)
                  · refine zs_aload_n hΓ dX5_shortest_174 (pc' := 175) rfl rfl rfl ?_
                    refine zs_getrE hΓ dX5_shortest_175 (pc' := 178) rfl fX5_104 (i9 := 48) rfl rfl (tw_t hTw) (tw_p48 hTw) ?_
                    refine zs_iload hΓ dX5_shortest_178 (pc' := 180) rfl rfl ?_
                    refine zs_iload hΓ dX5_shortest_180 (pc' := 182) rfl rfl ?_
                    refine zs_iast hΓ dX5_shortest_182 (pc' := 183) rfl (tw_a48 hTw) (show (0 : Int) ≤ 1 by decide) (by omega) (by omega) ?_
                    refine zs_iconst hΓ dX5_shortest_183 (pc' := 184) rfl ⟨by decide, by decide⟩ ?_
                    refine zs_istore hΓ dX5_shortest_184 (pc' := 186) rfl (L' := [some (zR _), some (zI _), some (zI _), some (zI _), some (zI _), some (zI _), some (zI _), some (zI _), some (zI _)]) (by decide) rfl rfl ?_
                    refine zs_iinc hΓ dX5_shortest_186 (pc' := 189) rfl (L' := [some (zR _), some (zI _), some (zI _), some (zI _), some (zI _), some (zI _), some (zI _), some (zI _), some (zI _)]) rfl (by unfold inI; omega) (by decide) rfl rfl ?_
                    refine zs_goto hΓ dX5_shortest_189 (tgt := 107) (by decide) ?_
                    refine zs_drop 7 (L' := [some (zR _), some (zI _), some (zI _), some (zI _), some (zI _), some (zI _), some (zI _), none, some (zI _)]) rfl ?_
                    refine zs_drop 8 (L' := [some (zR _), some (zI _), some (zI _), some (zI _), some (zI _), some (zI _), some (zI _), none, none]) rfl ?_
                    exact hit (by omega)
                  · refine zs_goto hΓ dX5_shortest_171 (tgt := 186) (by decide) ?_
                    refine zs_iinc hΓ dX5_shortest_186 (pc' := 189) rfl (L' := [some (zR _), some (zI _), some (zI _), some (zI _), some (zI _), some (zI _), some (zI _), some (zI _), some (zI _)]) rfl (by unfold inI; omega) (by decide) rfl rfl ?_
                    refine zs_goto hΓ dX5_shortest_189 (tgt := 107) (by decide) ?_
                    refine zs_drop 7 (L' := [some (zR _), some (zI _), some (zI _), some (zI _), some (zI _), some (zI _), some (zI _), none, some (zI _)]) rfl ?_
                    refine zs_drop 8 (L' := [some (zR _), some (zI _), some (zI _), some (zI _), some (zI _), some (zI _), some (zI _), none, none]) rfl ?_
                    exact next (fun _ _ => by omega)
                refine zs_iload hΓ dX5_shortest_107 (pc' := 109) rfl rfl ?_
                refine zs_bipush hΓ dX5_shortest_109 (pc' := 111) rfl ⟨by decide, by decide⟩ ?_
                refine zs_icmpge hΓ dX5_shortest_111 (tgt := 192) (by decide) (pc' := 114) rfl (fun c_111 => False.elim (absurd c_111 (by omega))) (fun c_111 => ?_)
                refine zs_aload_n hΓ dX5_shortest_114 (pc' := 115) rfl rfl rfl ?_
                refine zs_iload hΓ dX5_shortest_115 (pc' := 117) rfl rfl ?_
                refine zs_iload hΓ dX5_shortest_117 (pc' := 119) rfl rfl ?_
                refine zs_callVIP hΓ dX5_shortest_119 (pc' := 122) rfl kX5_380 (con_X5_beside l hTw (by rw [r5]; exact hw) c d (by rw [r5]; exact hcc) (by omega)) (tw_t hTw) rfl rfl rfl (Nat.le_of_ble_eq_true rfl) (by omega) (by decide) (by omega) (by omega) ?_ (fun _ _ q _ => False.elim q)
                rw [r5]
                refine zs_istore hΓ dX5_shortest_122 (pc' := 124) rfl (L' := [some (zR _), some (zI _), some (zI _), some (zI _), some (zI _), some (zI _), some (zI _), some (zI _), none]) (by decide) rfl rfl ?_
                refine zs_iload hΓ dX5_shortest_124 (pc' := 126) rfl rfl ?_
                refine zs_ifge hΓ dX5_shortest_126 (tgt := 135) (by decide) (pc' := 129) rfl (fun c_126 => ?_) (fun c_126 => False.elim (absurd c_126 (by omega)))
                refine zs_aload_n hΓ dX5_shortest_135 (pc' := 136) rfl rfl rfl ?_
                refine zs_getrE hΓ dX5_shortest_136 (pc' := 139) rfl fX5_104 (i9 := 48) rfl rfl (tw_t hTw) (tw_p48 hTw) ?_
                refine zs_iload hΓ dX5_shortest_139 (pc' := 141) rfl rfl ?_
                refine zs_iald hΓ dX5_shortest_141 (pc' := 142) rfl (tw_a48 hTw) (by omega) (by omega) ?_
                refine zs_iload hΓ dX5_shortest_142 (pc' := 144) rfl rfl ?_
                refine zs_iconst hΓ dX5_shortest_144 (pc' := 145) rfl ⟨by decide, by decide⟩ ?_
                refine zs_irem hΓ dX5_shortest_145 (pc' := 146) rfl (by omega) (by omega) ?_
                refine zs_ifne hΓ dX5_shortest_146 (tgt := 154) (by decide) (pc' := 149) rfl (fun c_146 => ?_) (fun c_146 => ?_)
                · refine zs_bipush hΓ dX5_shortest_154 (pc' := 156) rfl ⟨by decide, by decide⟩ ?_
                  exact fin 14 (by show 14 = if d % 2 = 0 then (10 : Int) else 14; rw [if_neg c_146])
                · refine zs_bipush hΓ dX5_shortest_149 (pc' := 151) rfl ⟨by decide, by decide⟩ ?_
                  refine zs_goto hΓ dX5_shortest_151 (tgt := 156) (by decide) ?_
                  exact fin 10 (by show 10 = if d % 2 = 0 then (10 : Int) else 14; rw [if_pos c_146])
              · skip
                refine zs_iload hΓ dX5_shortest_107 (pc' := 109) rfl rfl ?_
                refine zs_bipush hΓ dX5_shortest_109 (pc' := 111) rfl ⟨by decide, by decide⟩ ?_
                refine zs_icmpge hΓ dX5_shortest_111 (tgt := 192) (by decide) (pc' := 114) rfl (fun c_111 => False.elim (absurd c_111 (by omega))) (fun c_111 => ?_)
                refine zs_aload_n hΓ dX5_shortest_114 (pc' := 115) rfl rfl rfl ?_
                refine zs_iload hΓ dX5_shortest_115 (pc' := 117) rfl rfl ?_
                refine zs_iload hΓ dX5_shortest_117 (pc' := 119) rfl rfl ?_
                refine zs_callVIP hΓ dX5_shortest_119 (pc' := 122) rfl kX5_380 (con_X5_beside l hTw (by rw [r5]; exact hw) c d (by rw [r5]; exact hcc) (by omega)) (tw_t hTw) rfl rfl rfl (Nat.le_of_ble_eq_true rfl) (by omega) (by decide) (by omega) (by omega) ?_ (fun _ _ q _ => False.elim q)
                rw [r5]
                refine zs_istore hΓ dX5_shortest_122 (pc' := 124) rfl (L' := [some (zR _), some (zI _), some (zI _), some (zI _), some (zI _), some (zI _), some (zI _), some (zI _), none]) (by decide) rfl rfl ?_
                refine zs_iload hΓ dX5_shortest_124 (pc' := 126) rfl rfl ?_
                refine zs_ifge hΓ dX5_shortest_126 (tgt := 135) (by decide) (pc' := 129) rfl (fun c_126 => False.elim (absurd c_126 hbes)) (fun c_126 => ?_)
                refine zs_ldcw hΓ dX5_shortest_129 (pc' := 132) rfl (v := 10000000) q2179 ⟨by decide, by decide⟩ ?_
                refine zs_goto hΓ dX5_shortest_132 (tgt := 157) (by decide) ?_
                refine zs_istore hΓ dX5_shortest_157 (pc' := 159) rfl (L' := [some (zR _), some (zI _), some (zI _), some (zI _), some (zI _), some (zI _), some (zI _), some (zI _), some (zI _)]) (by decide) rfl rfl ?_
                refine zs_iload hΓ dX5_shortest_159 (pc' := 161) rfl rfl ?_
                refine zs_aload_n hΓ dX5_shortest_161 (pc' := 162) rfl rfl rfl ?_
                refine zs_getrE hΓ dX5_shortest_162 (pc' := 165) rfl fX5_104 (i9 := 48) rfl rfl (tw_t hTw) (tw_p48 hTw) ?_
                refine zs_iload hΓ dX5_shortest_165 (pc' := 167) rfl rfl ?_
                refine zs_iald hΓ dX5_shortest_167 (pc' := 168) rfl (tw_a48 hTw) (by omega) (by omega) ?_
                refine zs_icmplt hΓ dX5_shortest_168 (tgt := 174) (by decide) (pc' := 171) rfl (fun c_168 => False.elim (absurd c_168 (by omega))) (fun c_168 => ?_)
                refine zs_goto hΓ dX5_shortest_171 (tgt := 186) (by decide) ?_
                refine zs_iinc hΓ dX5_shortest_186 (pc' := 189) rfl (L' := [some (zR _), some (zI _), some (zI _), some (zI _), some (zI _), some (zI _), some (zI _), some (zI _), some (zI _)]) rfl (by unfold inI; omega) (by decide) rfl rfl ?_
                refine zs_goto hΓ dX5_shortest_189 (tgt := 107) (by decide) ?_
                refine zs_drop 7 (L' := [some (zR _), some (zI _), some (zI _), some (zI _), some (zI _), some (zI _), some (zI _), none, some (zI _)]) rfl ?_
                refine zs_drop 8 (L' := [some (zR _), some (zI _), some (zI _), some (zI _), some (zI _), some (zI _), some (zI _), none, none]) rfl ?_
                exact next (fun _ z => absurd z hbes)
          have mo9 : ok c → SS Γ 107 [some (zR (some (1, 0))), some (zI a), some (zI z), some (zI (iB firm)), some (zI mo), some (zI c), some (zI 0), none, none] [] h'' 0 0 := fun hokc => ways hokc 8 0 mo h'' (by omega) (by omega) hS2 I2 (hmo2.imp (fun q => ⟨q.1, q.2, fun d' d1 d2 => by omega⟩) id) hle
          refine zs_iload hΓ dX5_shortest_49 (pc' := 51) rfl rfl ?_
          refine zs_aload_n hΓ dX5_shortest_51 (pc' := 52) rfl rfl rfl ?_
          refine zs_callVIP hΓ dX5_shortest_52 (pc' := 55) rfl kX5_128 (con_X5_cells l hTw (by rw [r5]; exact hw)) (tw_t hTw) rfl rfl rfl (Nat.le_of_ble_eq_true rfl) (by omega) (by decide) (by omega) (by omega) ?_ (fun _ _ q _ => False.elim q)
          rw [r5]
          refine zs_icmpge hΓ dX5_shortest_55 (tgt := 198) (by decide) (pc' := 58) rfl (fun c_55 => False.elim (absurd c_55 (by omega))) (fun c_55 => ?_)
          refine zs_aload_n hΓ dX5_shortest_58 (pc' := 59) rfl rfl rfl ?_
          refine zs_iload hΓ dX5_shortest_59 (pc' := 61) rfl rfl ?_
          refine zs_callVIP hΓ dX5_shortest_61 (pc' := 64) rfl kX5_158 (con_X5_bears l hTw c (by omega)) (tw_t hTw) rfl rfl rfl (Nat.le_of_ble_eq_true rfl) (by omega) (by decide) (by omega) (by omega) ?_ (fun _ _ q _ => False.elim q)
          rw [r5]
          refine zs_ifeq hΓ dX5_shortest_64 (tgt := 192) (by decide) (pc' := 67) rfl (fun c_64 => ?_) (fun c_64 => ?_)
          · try have c_64 := iB_eq c_64
            refine zs_iinc hΓ dX5_shortest_192 (pc' := 195) rfl (L' := [some (zR _), some (zI _), some (zI _), some (zI _), some (zI _), some (zI _), none, none, none]) rfl (by unfold inI; omega) (by decide) rfl rfl ?_
            refine zs_goto hΓ dX5_shortest_195 (tgt := 49) (by decide) ?_
            exact skip (fun q => c_64 ((oke c).mp q).1)
          · try have c_64 := iB_ne c_64
            refine zs_iload_n hΓ dX5_shortest_67 (pc' := 68) rfl rfl rfl ?_
            refine zs_ifeq hΓ dX5_shortest_68 (tgt := 104) (by decide) (pc' := 71) rfl (fun c_68 => ?_) (fun c_68 => ?_)
            · have c_68 := iB_eq c_68
              refine zs_iconst hΓ dX5_shortest_104 (pc' := 105) rfl ⟨by decide, by decide⟩ ?_
              refine zs_istore hΓ dX5_shortest_105 (pc' := 107) rfl (L' := [some (zR _), some (zI _), some (zI _), some (zI _), some (zI _), some (zI _), some (zI _), none, none]) (by decide) rfl rfl ?_
              exact mo9 ((oke c).mpr ⟨c_64, fun q => absurd q c_68⟩)
            · have c_68 := iB_ne c_68
              refine zs_iload hΓ dX5_shortest_71 (pc' := 73) rfl rfl ?_
              refine zs_iload_n hΓ dX5_shortest_73 (pc' := 74) rfl rfl rfl ?_
              refine zs_icmpeq hΓ dX5_shortest_74 (tgt := 104) (by decide) (pc' := 77) rfl (fun c_74 => ?_) (fun c_74 => ?_)
              · refine zs_iconst hΓ dX5_shortest_104 (pc' := 105) rfl ⟨by decide, by decide⟩ ?_
                refine zs_istore hΓ dX5_shortest_105 (pc' := 107) rfl (L' := [some (zR _), some (zI _), some (zI _), some (zI _), some (zI _), some (zI _), some (zI _), none, none]) (by decide) rfl rfl ?_
                exact mo9 ((oke c).mpr ⟨c_64, fun _ => Or.inl c_74⟩)
              · refine zs_iload hΓ dX5_shortest_77 (pc' := 79) rfl rfl ?_
                refine zs_iload_n hΓ dX5_shortest_79 (pc' := 80) rfl rfl rfl ?_
                refine zs_icmpeq hΓ dX5_shortest_80 (tgt := 104) (by decide) (pc' := 83) rfl (fun c_80 => ?_) (fun c_80 => ?_)
                · refine zs_iconst hΓ dX5_shortest_104 (pc' := 105) rfl ⟨by decide, by decide⟩ ?_
                  refine zs_istore hΓ dX5_shortest_105 (pc' := 107) rfl (L' := [some (zR _), some (zI _), some (zI _), some (zI _), some (zI _), some (zI _), some (zI _), none, none]) (by decide) rfl rfl ?_
                  exact mo9 ((oke c).mpr ⟨c_64, fun _ => Or.inr (Or.inl c_80)⟩)
                · refine zs_aload_n hΓ dX5_shortest_83 (pc' := 84) rfl rfl rfl ?_
                  refine zs_iload hΓ dX5_shortest_84 (pc' := 86) rfl rfl ?_
                  refine zs_callVIP hΓ dX5_shortest_86 (pc' := 89) rfl kX5_356 (con_X5_isGreen l hTw c (by omega)) (tw_t hTw) rfl rfl rfl (Nat.le_of_ble_eq_true rfl) (by omega) (by decide) (by omega) (by omega) ?_ (fun _ _ q _ => False.elim q)
                  rw [r5]
                  refine zs_ifeq hΓ dX5_shortest_89 (tgt := 104) (by decide) (pc' := 92) rfl (fun c_89 => ?_) (fun c_89 => ?_)
                  · try have c_89 := iB_eq c_89
                    refine zs_iconst hΓ dX5_shortest_104 (pc' := 105) rfl ⟨by decide, by decide⟩ ?_
                    refine zs_istore hΓ dX5_shortest_105 (pc' := 107) rfl (L' := [some (zR _), some (zI _), some (zI _), some (zI _), some (zI _), some (zI _), some (zI _), none, none]) (by decide) rfl rfl ?_
                    exact mo9 ((oke c).mpr ⟨c_64, fun _ => Or.inr (Or.inr (Or.inl c_89))⟩)
                  · try have c_89 := iB_ne c_89
                    refine zs_aload_n hΓ dX5_shortest_92 (pc' := 93) rfl rfl rfl ?_
                    refine zs_iload hΓ dX5_shortest_93 (pc' := 95) rfl rfl ?_
                    refine zs_callVIP hΓ dX5_shortest_95 (pc' := 98) rfl kX5_140 (con_X5_isWorn l hTw c (by omega)) (tw_t hTw) rfl rfl rfl (Nat.le_of_ble_eq_true rfl) (by omega) (by decide) (by omega) (by omega) ?_ (fun _ _ q _ => False.elim q)
                    rw [r5, b28]
                    refine zs_ifne hΓ dX5_shortest_98 (tgt := 104) (by decide) (pc' := 101) rfl (fun c_98 => ?_) (fun c_98 => ?_)
                    · try have c_98 := iB_ne c_98
                      refine zs_iconst hΓ dX5_shortest_104 (pc' := 105) rfl ⟨by decide, by decide⟩ ?_
                      refine zs_istore hΓ dX5_shortest_105 (pc' := 107) rfl (L' := [some (zR _), some (zI _), some (zI _), some (zI _), some (zI _), some (zI _), some (zI _), none, none]) (by decide) rfl rfl ?_
                      exact mo9 ((oke c).mpr ⟨c_64, fun _ => Or.inr (Or.inr (Or.inr c_98))⟩)
                    · try have c_98 := iB_eq c_98
                      refine zs_goto hΓ dX5_shortest_101 (tgt := 192) (by decide) ?_
                      refine zs_iinc hΓ dX5_shortest_192 (pc' := 195) rfl (L' := [some (zR _), some (zI _), some (zI _), some (zI _), some (zI _), some (zI _), none, none, none]) rfl (by unfold inI; omega) (by decide) rfl rfl ?_
                      refine zs_goto hΓ dX5_shortest_195 (tgt := 49) (by decide) ?_
                      exact skip (fun q => by rcases ((oke c).mp q).2 c_68 with y | y | y | y; exact c_74 y; exact c_80 y; exact y c_89; exact c_98 y)
      rcases hmo with ⟨q1, q2⟩ | q1
      · exact done h' more hS I q1 q2
      · subst q1
        refine zs_iload hΓ dX5_shortest_38 (pc' := 40) rfl rfl ?_
        refine zs_ifeq hΓ dX5_shortest_40 (tgt := 201) (by decide) (pc' := 43) rfl (fun c_40 => False.elim (absurd c_40 (by decide))) (fun c_40 => ?_)
        refine zs_iconst hΓ dX5_shortest_43 (pc' := 44) rfl ⟨by decide, by decide⟩ ?_
        refine zs_istore hΓ dX5_shortest_44 (pc' := 46) rfl (L' := [some (zR _), some (zI _), some (zI _), some (zI _), some (zI _), none, none, none, none]) (by decide) rfl rfl ?_
        refine zs_iconst hΓ dX5_shortest_46 (pc' := 47) rfl ⟨by decide, by decide⟩ ?_
        refine zs_istore hΓ dX5_shortest_47 (pc' := 49) rfl (L' := [some (zR _), some (zI _), some (zI _), some (zI _), some (zI _), some (zI _), none, none, none]) (by decide) rfl rfl ?_
        exact cells (R 0 * R 1).toNat 0 0 h' (by omega) (by omega) hS I (Or.inl ⟨rfl, fun x d x1 x2 => by omega⟩) (Int.le_refl _)
  have init : ∀ (m : Nat) (c : Int) (h' : zH), c + m = R 0 * R 1 → 0 ≤ c → Same (fun a _ => a = (1, 48)) h h' → (∀ x, 0 ≤ x → x < c → gI h' (1, 48) x = 10000000) → SS Γ 3 [some (zR (some (1, 0))), some (zI a), some (zI z), some (zI (iB firm)), some (zI c), none, none, none, none] [] h' 0 0 := by
    intro m
    induction m with
    | zero =>
      intro c h' hc hc0 hS hr
      obtain ⟨hTw, r5, b28⟩ := fc h' hS
      have hu : gI (setI h' (1, 48) a 0) (1, 48) = upR (gI h' (1, 48)) a 0 := gI_up _ _ _ _
      refine zs_iload hΓ dX5_shortest_3 (pc' := 5) rfl rfl ?_
      refine zs_aload_n hΓ dX5_shortest_5 (pc' := 6) rfl rfl rfl ?_
      refine zs_callVIP hΓ dX5_shortest_6 (pc' := 9) rfl kX5_128 (con_X5_cells l hTw (by rw [r5]; exact hw)) (tw_t hTw) rfl rfl rfl (Nat.le_of_ble_eq_true rfl) (by omega) (by decide) (by omega) (by omega) ?_ (fun _ _ q _ => False.elim q)
      rw [r5]
      refine zs_icmpge hΓ dX5_shortest_9 (tgt := 28) (by decide) (pc' := 12) rfl (fun c_9 => ?_) (fun c_9 => False.elim (absurd c_9 (by omega)))
      refine zs_aload_n hΓ dX5_shortest_28 (pc' := 29) rfl rfl rfl ?_
      refine zs_getrE hΓ dX5_shortest_29 (pc' := 32) rfl fX5_104 (i9 := 48) rfl rfl (tw_t hTw) (tw_p48 hTw) ?_
      refine zs_iload_n hΓ dX5_shortest_32 (pc' := 33) rfl rfl rfl ?_
      refine zs_iconst hΓ dX5_shortest_33 (pc' := 34) rfl ⟨by decide, by decide⟩ ?_
      refine zs_iast hΓ dX5_shortest_34 (pc' := 35) rfl (tw_a48 hTw) (show (0 : Int) ≤ 1 by decide) (by omega) (by omega) ?_
      refine zs_iconst hΓ dX5_shortest_35 (pc' := 36) rfl ⟨by decide, by decide⟩ ?_
      refine zs_istore hΓ dX5_shortest_36 (pc' := 38) rfl (L' := [some (zR _), some (zI _), some (zI _), some (zI _), some (zI _), none, none, none, none]) (by decide) rfl rfl ?_
      exact outer (sumF (gI (setI h' (1, 48) a 0) (1, 48)) (R 0 * R 1).toNat).toNat _ 1 (by omega) (hS.set rfl) (by
        rw [hu]
        refine InvV.mk (fun x x1 x2 hx => ?_) (fun x x1 x2 => ?_) (fun x v hx => ?_) (fun x x1 x2 hx => ?_)
        · by_cases e : x = a
          · rw [e, upR_s]; exact sVal_b ((BBe a 0).mpr ⟨rfl, rfl⟩)
          · rw [upR_n _ _ e, hr x x1 (by omega)] at hx; omega
        · by_cases e : x = a
          · rw [e, upR_s]; decide
          · rw [upR_n _ _ e, hr x x1 (by omega)]; decide
        · obtain ⟨e1, e2⟩ := (BBe x v).mp hx
          rw [e1, e2, upR_s]; exact ⟨ha, by decide, by decide⟩
        · have h9 := cntP_r (fun x => upR (gI h' (1, 48)) a 0 x < 10000000) (R 0 * R 1).toNat
          by_cases e : x = a
          · rw [e, upR_s]; omega
          · rw [upR_n _ _ e, hr x x1 (by omega)] at hx; omega) (Or.inr rfl)
    | succ m ih =>
      intro c h' hc hc0 hS hr
      obtain ⟨hTw, r5, b28⟩ := fc h' hS
      refine zs_iload hΓ dX5_shortest_3 (pc' := 5) rfl rfl ?_
      refine zs_aload_n hΓ dX5_shortest_5 (pc' := 6) rfl rfl rfl ?_
      refine zs_callVIP hΓ dX5_shortest_6 (pc' := 9) rfl kX5_128 (con_X5_cells l hTw (by rw [r5]; exact hw)) (tw_t hTw) rfl rfl rfl (Nat.le_of_ble_eq_true rfl) (by omega) (by decide) (by omega) (by omega) ?_ (fun _ _ q _ => False.elim q)
      rw [r5]
      refine zs_icmpge hΓ dX5_shortest_9 (tgt := 28) (by decide) (pc' := 12) rfl (fun c_9 => False.elim (absurd c_9 (by omega))) (fun c_9 => ?_)
      refine zs_aload_n hΓ dX5_shortest_12 (pc' := 13) rfl rfl rfl ?_
      refine zs_getrE hΓ dX5_shortest_13 (pc' := 16) rfl fX5_104 (i9 := 48) rfl rfl (tw_t hTw) (tw_p48 hTw) ?_
      refine zs_iload hΓ dX5_shortest_16 (pc' := 18) rfl rfl ?_
      refine zs_ldcw hΓ dX5_shortest_18 (pc' := 21) rfl (v := 10000000) q2179 ⟨by decide, by decide⟩ ?_
      refine zs_iast hΓ dX5_shortest_21 (pc' := 22) rfl (tw_a48 hTw) (show (0 : Int) ≤ 1 by decide) (by omega) (by omega) ?_
      refine zs_iinc hΓ dX5_shortest_22 (pc' := 25) rfl (L' := [some (zR _), some (zI _), some (zI _), some (zI _), some (zI _), none, none, none, none]) rfl (by unfold inI; omega) (by decide) rfl rfl ?_
      refine zs_goto hΓ dX5_shortest_25 (tgt := 3) (by decide) ?_
      exact ih (c + 1) _ (by omega) (by omega) (hS.set rfl) (fun x x1 x2 => by rw [gI_setI]; by_cases e : x = c; rw [if_pos ⟨rfl, e⟩]; rw [if_neg (fun z => e z.2)]; exact hr x x1 (by omega))
  refine zs_iconst hΓ dX5_shortest_0 (pc' := 1) rfl ⟨by decide, by decide⟩ ?_
  refine zs_istore hΓ dX5_shortest_1 (pc' := 3) rfl (L' := [some (zR _), some (zI _), some (zI _), some (zI _), some (zI _), none, none, none, none]) (by decide) rfl rfl ?_
  exact init (R 0 * R 1).toNat 0 h (by omega) (by omega) (Same.rf _ _) (fun x x1 x2 => by omega)
