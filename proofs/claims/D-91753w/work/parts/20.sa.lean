/-! THE NAMED HEAP, part A: values are integers or names; the numbers of 32 and 64 bits out of whole numbers -/
set_option maxRecDepth 100000
abbrev zNm : Type := Int × Int
/-- an abstract value: an int, a long, a reference (a name, or null) -/
abbrev zV : Type := Int ⊕ (Int ⊕ Option zNm)
abbrev zI (x : Int) : zV := .inl x
abbrev zL (x : Int) : zV := .inr (.inl x)
abbrev zR (r : Option zNm) : zV := .inr (.inr r)
/-- an abstract heap: what a name is (kind, how many places), its numbers, its references -/
abbrev zH : Type := (zNm → Option (Nat × Nat)) × (zNm → Int → Int) × (zNm → Int → Option zNm)
def gT (h : zH) (a : zNm) : Option (Nat × Nat) := h.1 a
def gI (h : zH) (a : zNm) (k : Int) : Int := h.2.1 a k
def gP (h : zH) (a : zNm) (k : Int) : Option zNm := h.2.2 a k
def setI (h : zH) (a : zNm) (k v : Int) : zH := (h.1, fun b j => if b = a ∧ j = k then v else h.2.1 b j, h.2.2)
def setP (h : zH) (a : zNm) (k : Int) (r : Option zNm) : zH := (h.1, h.2.1, fun b j => if b = a ∧ j = k then r else h.2.2 b j)
def newC (h : zH) (a : zNm) (kd n : Nat) : zH := (fun b => if b = a then some (kd, n) else h.1 b, fun b j => if b = a then 0 else h.2.1 b j, fun b j => if b = a then none else h.2.2 b j)
theorem gT_setI (h : zH) (a : zNm) (k v : Int) (b : zNm) : gT (setI h a k v) b = gT h b := rfl
theorem gT_setP (h : zH) (a : zNm) (k : Int) (r : Option zNm) (b : zNm) : gT (setP h a k r) b = gT h b := rfl
theorem gT_newC (h : zH) (a : zNm) (kd n : Nat) (b : zNm) : gT (newC h a kd n) b = if b = a then some (kd, n) else gT h b := rfl
theorem gI_setI (h : zH) (a : zNm) (k v : Int) (b : zNm) (j : Int) : gI (setI h a k v) b j = if b = a ∧ j = k then v else gI h b j := rfl
theorem gI_setP (h : zH) (a : zNm) (k : Int) (r : Option zNm) (b : zNm) (j : Int) : gI (setP h a k r) b j = gI h b j := rfl
theorem gI_newC (h : zH) (a : zNm) (kd n : Nat) (b : zNm) (j : Int) : gI (newC h a kd n) b j = if b = a then 0 else gI h b j := rfl
theorem gP_setI (h : zH) (a : zNm) (k v : Int) (b : zNm) (j : Int) : gP (setI h a k v) b j = gP h b j := rfl
theorem gP_setP (h : zH) (a : zNm) (k : Int) (r : Option zNm) (b : zNm) (j : Int) : gP (setP h a k r) b j = if b = a ∧ j = k then r else gP h b j := rfl
theorem gP_newC (h : zH) (a : zNm) (kd n : Nat) (b : zNm) (j : Int) : gP (newC h a kd n) b j = if b = a then none else gP h b j := rfl
/-- within 32 bits, within 64 -/
def inI (x : Int) : Prop := -2147483648 ≤ x ∧ x ≤ 2147483647
def inL (x : Int) : Prop := -9223372036854775808 ≤ x ∧ x ≤ 9223372036854775807
theorem inI_L {x : Int} (h : inI x) : inL x := ⟨by have := h.1; omega, by have := h.2; omega⟩
abbrev iO (x : Int) : Int32 := Int32.ofInt x
abbrev lO (x : Int) : Int64 := Int64.ofInt x
theorem iO_toInt {x : Int} (h : inI x) : (iO x).toInt = x := Int32.toInt_ofInt_of_le h.1 (by have := h.2; omega)
theorem lO_toInt {x : Int} (h : inL x) : (lO x).toInt = x := Int64.toInt_ofInt_of_le h.1 (by have := h.2; omega)
theorem iO_eq {x y : Int} (hx : inI x) (hy : inI y) : iO x = iO y ↔ x = y := by
  rw [← Int32.toInt_inj, iO_toInt hx, iO_toInt hy]
theorem iO_lt {x y : Int} (hx : inI x) (hy : inI y) : iO x < iO y ↔ x < y := by
  rw [Int32.lt_iff_toInt_lt, iO_toInt hx, iO_toInt hy]
theorem iO_le {x y : Int} (hx : inI x) (hy : inI y) : iO x ≤ iO y ↔ x ≤ y := by
  rw [Int32.le_iff_toInt_le, iO_toInt hx, iO_toInt hy]
theorem iO_0 : iO 0 = 0 := rfl
theorem inI_0 : inI 0 := ⟨by decide, by decide⟩
theorem iO_eq0 {x : Int} (hx : inI x) : iO x = 0 ↔ x = 0 := iO_eq hx inI_0
theorem iO_lt0 {x : Int} (hx : inI x) : iO x < 0 ↔ x < 0 := iO_lt hx inI_0
theorem iO_le0 {x : Int} (hx : inI x) : iO x ≤ 0 ↔ x ≤ 0 := iO_le hx inI_0
theorem iO_0lt {x : Int} (hx : inI x) : 0 < iO x ↔ 0 < x := iO_lt inI_0 hx
theorem iO_0le {x : Int} (hx : inI x) : 0 ≤ iO x ↔ 0 ≤ x := iO_le inI_0 hx
theorem iO_of (v : Int32) : ∃ x : Int, inI x ∧ v = iO x := by
  refine ⟨v.toInt, ⟨v.le_toInt, ?_⟩, (Int32.ofInt_toInt v).symm⟩
  have := v.toInt_lt
  omega
theorem iO_clamp {x : Int} (h0 : 0 ≤ x) (h : inI x) : (iO x).toNatClampNeg = x.toNat := by
  show (iO x).toInt.toNat = x.toNat
  rw [iO_toInt h]
theorem iO_in {x : Int} {n : Nat} (h0 : 0 ≤ x) (h1 : x < n) (h : inI x) : vp_in (iO x) n := by
  intro q
  rcases q with q | q
  · have := (iO_lt0 h).mp q
    omega
  · rw [iO_clamp h0 h] at q
    omega
theorem iO_div {x y : Int} (hx : inI x) (hy : inI y) (h0 : 0 ≤ x) (h1 : 0 < y) : iO x / iO y = iO (x / y) := by
  apply Int32.toInt_inj.mp
  have hd : inI (x / y) := by
    have a1 : 0 ≤ x / y := Int.ediv_nonneg h0 (by omega)
    have a2 : x / y ≤ x := Int.ediv_le_self y h0
    exact ⟨by omega, by have := hx.2; omega⟩
  have hne : iO y ≠ -1 := fun q => by
    have q2 : (iO y).toInt = (-1 : Int32).toInt := by rw [q]
    rw [iO_toInt hy] at q2
    have q3 : (-1 : Int32).toInt = -1 := by decide
    omega
  rw [Int32.toInt_div_of_ne_right _ _ hne, iO_toInt hx, iO_toInt hy, iO_toInt hd, Int.tdiv_eq_ediv_of_nonneg h0]
theorem iO_rem {x y : Int} (hx : inI x) (hy : inI y) (h0 : 0 ≤ x) (h1 : 0 < y) : iO x - iO x / iO y * iO y = iO (x % y) := by
  rw [iO_div hx hy h0 h1, ← Int32.ofInt_mul, ← Int32.ofInt_sub]
  congr 1
  have := Int.emod_add_mul_ediv x y
  rw [Int.mul_comm (x / y) y]
  omega
theorem iO_nat {x : Int} (h0 : 0 ≤ x) (h : inI x) : (iO x).toBitVec.toNat = x.toNat := by
  obtain ⟨n, rfl⟩ := Int.eq_ofNat_of_zero_le h0
  have h2 := h.2
  rw [iO, Int32.ofInt_eq_ofNat]
  show n % 2 ^ 32 = _
  rw [Int.toNat_natCast, Nat.mod_eq_of_lt (by omega)]
theorem iO_ofN {v : Int32} {n : Nat} (h : v.toBitVec.toNat = n) : v = iO (n : Int) := by
  apply Int32.toBitVec_inj.mp
  apply BitVec.eq_of_toNat_eq
  rw [h, iO, Int32.ofInt_eq_ofNat]
  show n = n % 2 ^ 32
  rw [Nat.mod_eq_of_lt]
  rw [← h]
  exact v.toBitVec.isLt
theorem iO_and {x y : Int} (hx : inI x) (hy : inI y) (h0 : 0 ≤ x) (h1 : 0 ≤ y) : iO x &&& iO y = iO ((x.toNat &&& y.toNat : Nat) : Int) := by
  apply iO_ofN
  rw [Int32.toBitVec_and, BitVec.toNat_and, iO_nat h0 hx, iO_nat h1 hy]
theorem iO_or {x y : Int} (hx : inI x) (hy : inI y) (h0 : 0 ≤ x) (h1 : 0 ≤ y) : iO x ||| iO y = iO ((x.toNat ||| y.toNat : Nat) : Int) := by
  apply iO_ofN
  rw [Int32.toBitVec_or, BitVec.toNat_or, iO_nat h0 hx, iO_nat h1 hy]
theorem iO_xor {x y : Int} (hx : inI x) (hy : inI y) (h0 : 0 ≤ x) (h1 : 0 ≤ y) : iO x ^^^ iO y = iO ((x.toNat ^^^ y.toNat : Nat) : Int) := by
  apply iO_ofN
  rw [Int32.toBitVec_xor, BitVec.toNat_xor, iO_nat h0 hx, iO_nat h1 hy]
theorem inI_and {x y : Int} (hx : inI x) (h0 : 0 ≤ x) : inI ((x.toNat &&& y.toNat : Nat) : Int) := by
  have := Nat.and_le_left (n := x.toNat) (m := y.toNat)
  have h2 := hx.2
  exact ⟨by omega, by omega⟩
theorem inI_or {x y : Int} (hx : inI x) (hy : inI y) : inI ((x.toNat ||| y.toNat : Nat) : Int) := by
  have h := Nat.or_lt_two_pow (n := 31) (x := x.toNat) (y := y.toNat) (by have := hx.2; omega) (by have := hy.2; omega)
  exact ⟨by omega, by omega⟩
theorem inI_xor {x y : Int} (hx : inI x) (hy : inI y) : inI ((x.toNat ^^^ y.toNat : Nat) : Int) := by
  have h := Nat.xor_lt_two_pow (n := 31) (x := x.toNat) (y := y.toNat) (by have := hx.2; omega) (by have := hy.2; omega)
  exact ⟨by omega, by omega⟩
/-- a mask of k bits, of any int -/
theorem iO_mask (x : Int) (k : Nat) (hk : k < 31) : iO x &&& iO ((2 ^ k - 1 : Nat) : Int) = iO (x % ((2 ^ k : Nat) : Int)) := by
  have hp : 2 ^ k < 2 ^ 31 := Nat.pow_lt_pow_right (by decide) hk
  have hp0 : 0 < 2 ^ k := Nat.two_pow_pos k
  have e0 : 0 ≤ x % ((2 ^ k : Nat) : Int) := Int.emod_nonneg _ (by omega)
  have e1 : x % ((2 ^ k : Nat) : Int) < ((2 ^ k : Nat) : Int) := Int.emod_lt_of_pos _ (by omega)
  obtain ⟨r, hr⟩ := Int.eq_ofNat_of_zero_le e0
  rw [hr]
  apply iO_ofN
  rw [Int32.toBitVec_and, BitVec.toNat_and, iO_nat (x := ((2 ^ k - 1 : Nat) : Int)) (by omega) ⟨by omega, by omega⟩, Int.toNat_natCast, Nat.and_two_pow_sub_one_eq_mod]
  have e2 : (iO x).toBitVec.toNat = (x % (2 ^ 32 : Int)).toNat := by
    show (BitVec.ofInt 32 x).toNat = _
    rw [BitVec.toNat_ofInt]
    rfl
  rw [e2]
  have hd : ((2 ^ k : Nat) : Int) ∣ (2 ^ 32 : Int) := by
    refine ⟨((2 ^ (32 - k) : Nat) : Int), ?_⟩
    rw [← Int.natCast_mul, ← Nat.pow_add]
    have : k + (32 - k) = 32 := by omega
    rw [this]
    rfl
  have h3 : (((x % (2 ^ 32 : Int)).toNat % 2 ^ k : Nat) : Int) = x % ((2 ^ k : Nat) : Int) := by
    rw [Int.natCast_emod, Int.toNat_of_nonneg (Int.emod_nonneg _ (by decide)), Int.emod_emod_of_dvd _ hd]
  rw [hr] at h3
  exact Int.ofNat.inj h3
theorem inI_mod {x m : Int} (h0 : 0 < m) (hm : m ≤ 2147483648) : inI (x % m) := by
  have e0 : 0 ≤ x % m := Int.emod_nonneg _ (by omega)
  have e1 : x % m < m := Int.emod_lt_of_pos _ h0
  exact ⟨by omega, by omega⟩
/-- all bits turned: x ^ -1 -/
theorem iO_not {x : Int} (hx : inI x) : iO x ^^^ iO (-1) = iO (-1 - x) := by
  have h1 : iO x ^^^ iO (-1) = ~~~(iO x) := by
    apply Int32.toBitVec_inj.mp
    rw [Int32.toBitVec_xor, Int32.toBitVec_not]
    have : (iO (-1)).toBitVec = BitVec.allOnes 32 := by decide
    rw [this, BitVec.xor_allOnes]
  rw [h1]
  apply Int32.toInt_inj.mp
  rw [Int32.toInt_not, iO_toInt hx, iO_toInt ⟨by have := hx.2; omega, by have := hx.1; omega⟩]
  rw [Int.bmod_eq_of_le (by have := hx.2; omega) (by have := hx.1; omega)]
  omega
/-- the bits of x that b has not -/
theorem iO_andnot {x b : Int} (hx : inI x) (hb : inI b) (h0 : 0 ≤ x) (h1 : 0 ≤ b) : iO x &&& iO (-1 - b) = iO (x - ((x.toNat &&& b.toNat : Nat) : Int)) := by
  rw [← iO_not hb]
  have e : iO x &&& (iO b ^^^ iO (-1)) = iO x - (iO x &&& iO b) := by
    have hh : ∀ a c : BitVec 32, a &&& (c ^^^ BitVec.allOnes 32) = a - (a &&& c) := by
      intro a c
      have h0 : (a &&& c) &&& (a &&& ~~~c) = 0#32 := by
        apply BitVec.eq_of_getLsbD_eq
        intro i hi
        simp only [BitVec.getLsbD_and, BitVec.getLsbD_not, hi, decide_true, Bool.true_and, BitVec.getLsbD_zero]
        cases a.getLsbD i <;> cases c.getLsbD i <;> rfl
      have h1 : (a &&& c) + (a &&& ~~~c) = a := by
        rw [BitVec.add_eq_or_of_and_eq_zero _ _ h0]
        apply BitVec.eq_of_getLsbD_eq
        intro i hi
        simp only [BitVec.getLsbD_or, BitVec.getLsbD_and, BitVec.getLsbD_not, hi, decide_true, Bool.true_and]
        cases a.getLsbD i <;> cases c.getLsbD i <;> rfl
      have h2 : a - (a &&& c) = a &&& ~~~c := by
        have h3 : (a &&& ~~~c) + (a &&& c) - (a &&& c) = a &&& ~~~c := BitVec.add_sub_cancel _ _
        rw [BitVec.add_comm, h1] at h3
        exact h3
      rw [h2, BitVec.xor_allOnes]
    apply Int32.toBitVec_inj.mp
    rw [Int32.toBitVec_and, Int32.toBitVec_xor, Int32.toBitVec_sub, Int32.toBitVec_and]
    have : (iO (-1)).toBitVec = BitVec.allOnes 32 := by decide
    rw [this]
    exact hh _ _
  rw [e, iO_and hx hb h0 h1, ← Int32.ofInt_sub]
/-- a shift to the left by k -/
theorem iO_shl {x : Int} {k : Nat} (hx : inI x) (h0 : 0 ≤ x) (hk : k < 32) (hr : inI (x * ((2 ^ k : Nat) : Int))) : iO x <<< (iO (k : Int) &&& 31) = iO (x * ((2 ^ k : Nat) : Int)) := by
  have hn : 0 ≤ x * ((2 ^ k : Nat) : Int) := Int.mul_nonneg h0 (Int.natCast_nonneg _)
  obtain ⟨n, rfl⟩ := Int.eq_ofNat_of_zero_le h0
  have e1 : (n : Int) * ((2 ^ k : Nat) : Int) = ((n * 2 ^ k : Nat) : Int) := (Int.natCast_mul n (2 ^ k)).symm
  rw [e1] at hr ⊢
  have es : ∀ k : Nat, k < 32 → ((iO (k : Int) &&& 31).toBitVec.smod 32).toNat = k := by decide +kernel
  have e2 := pk_shlN (n := n) (iO (k : Int) &&& 31) k (es k hk) (by have := hr.2; omega)
  have e3 : ∀ q : Nat, iO (q : Int) = nI q := fun q => Int32.ofInt_eq_ofNat
  rw [e3 n, e3 (n * 2 ^ k)]
  exact e2
theorem inI_shr {x : Int} {k : Nat} (hx : inI x) : inI (x / ((2 ^ k : Nat) : Int)) := by
  have hP : ((1 : Nat) : Int) ≤ ((2 ^ k : Nat) : Int) := Int.ofNat_le.mpr Nat.one_le_two_pow
  generalize ((2 ^ k : Nat) : Int) = P at hP ⊢
  have h1 := hx.1
  have h2 := hx.2
  have hP1 : 1 ≤ P := hP
  refine ⟨Int.le_ediv_of_mul_le (by omega) (by omega), ?_⟩
  by_cases hz : 0 ≤ x
  · have := Int.ediv_le_self P hz
    omega
  · have : x / P < 0 := Int.ediv_neg_of_neg_of_pos (by omega) (by omega)
    omega
/-- a signed shift to the right by k -/
theorem iO_shr {x : Int} {k : Nat} (hx : inI x) (hk : k < 32) : iO x >>> (iO (k : Int) &&& 31) = iO (x / ((2 ^ k : Nat) : Int)) := by
  have hp0 : 0 < 2 ^ k := Nat.two_pow_pos k
  have es : ∀ k : Nat, k < 32 → ((iO (k : Int) &&& 31).toBitVec.smod 32).toNat = k := by decide +kernel
  have e2 := pk_shr (iO x) (iO (k : Int) &&& 31) k (es k hk)
  have hd : inI (x / ((2 ^ k : Nat) : Int)) := inI_shr hx
  apply Int32.toInt_inj.mp
  rw [e2, iO_toInt hx, iO_toInt hd, Int.shiftRight_eq_div_pow]
/-- what a byte keeps -/
def i8 (x : Int) : Int := (x + 128) % 256 - 128
theorem i8_bmod (x : Int) : x.bmod (2 ^ 8) = i8 x := by
  have e : ((2 ^ 8 : Nat) : Int) = 256 := rfl
  rw [Int.bmod_def, e]
  unfold i8
  split <;> omega
theorem inI_i8 (x : Int) : inI (i8 x) := by
  unfold i8
  exact ⟨by omega, by omega⟩
theorem iO_i2b {x : Int} (hx : inI x) : (iO x).toInt8.toInt32 = iO (i8 x) := by
  apply Int32.toInt_inj.mp
  rw [Int8.toInt_toInt32, Int32.toInt_toInt8, iO_toInt hx, iO_toInt (inI_i8 x), i8_bmod]
theorem iO_i2c {x : Int} (hx : inI x) : ((iO x).toUInt32 % 65536).toInt32 = iO (x % 65536) := by
  have e := pk_char (iO x)
  have e2 : (iO x).toBitVec.toNat = (x % (2 ^ 32 : Int)).toNat := by
    show (BitVec.ofInt 32 x).toNat = _
    rw [BitVec.toNat_ofInt]
    rfl
  rw [e, e2]
  have e3 : ∀ q : Nat, iO (q : Int) = nI q := fun q => Int32.ofInt_eq_ofNat
  rw [← e3]
  congr 1
  omega
theorem iO_long {x : Int} (hx : inI x) : (iO x).toInt64 = lO x := by
  apply Int64.toInt_inj.mp
  rw [Int32.toInt_toInt64, iO_toInt hx, lO_toInt (inI_L hx)]
theorem lO_eq {x y : Int} (hx : inL x) (hy : inL y) : lO x = lO y ↔ x = y := by
  rw [← Int64.toInt_inj, lO_toInt hx, lO_toInt hy]
theorem lO_lt {x y : Int} (hx : inL x) (hy : inL y) : lO x < lO y ↔ x < y := by
  rw [Int64.lt_iff_toInt_lt, lO_toInt hx, lO_toInt hy]
