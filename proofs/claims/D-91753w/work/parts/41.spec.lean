/-! WHAT IS COMPUTED: plain functions over the row R (the twin's row of numbers) -/
noncomputable def iB (p : Prop) : Int := @ite Int p (Classical.propDecidable p) 1 0
noncomputable def zIf {α : Type} (p : Prop) (a b : α) : α := @ite α p (Classical.propDecidable p) a b
theorem zIf_t {α : Type} {p : Prop} {a b : α} (h : p) : zIf p a b = a := if_pos h
theorem zIf_f {α : Type} {p : Prop} {a b : α} (h : ¬ p) : zIf p a b = b := if_neg h
/-- cell c's number w -/
def cel (R : Int → Int) (c w : Int) : Int := R (522 + 7 * c + w)
abbrev sBears (R : Int → Int) (c : Int) : Prop := cel R c 0 ≠ 3 ∧ cel R c 0 ≠ 6
abbrev sGreen (R : Int → Int) (c : Int) : Prop := cel R c 0 = 0 ∨ cel R c 0 = 2
abbrev sWorn (R : Int → Int) (b c : Int) : Prop := b ≤ cel R c 3
abbrev sMuddy (R : Int → Int) (b mu c : Int) : Prop := b ≤ cel R c 3 ∧ mu ≤ cel R c 4
def sEast (d : Int) : Int := if d % 4 = 0 then 0 else if d < 4 then 1 else -1
def sSouth (d : Int) : Int := if d % 4 = 2 then 0 else if 3 ≤ d ∧ d ≤ 5 then 1 else -1
def sBeside (R : Int → Int) (c d : Int) : Int :=
  if (0 ≤ c % R 0 + sEast d ∧ c % R 0 + sEast d ≤ R 0 - 1) ∧ 0 ≤ c / R 0 + sSouth d ∧ c / R 0 + sSouth d ≤ R 1 - 1 then R 0 * (c / R 0 + sSouth d) + (c % R 0 + sEast d) else -1
theorem mul16 {a b : Int} (ha : 4 ≤ a ∧ a ≤ 16) (hb : 4 ≤ b ∧ b ≤ 16) : 16 ≤ a * b ∧ a * b ≤ 256 := by
  have h1 : 4 * 4 ≤ a * b := Int.mul_le_mul ha.1 hb.1 (by decide) (by omega)
  have h2 : a * b ≤ 16 * 16 := Int.mul_le_mul ha.2 hb.2 (by omega) (by decide)
  omega
theorem inI_mul16 {a b : Int} (ha : 4 ≤ a ∧ a ≤ 16) (hb : 4 ≤ b ∧ b ≤ 16) : inI (a * b) := by
  have := mul16 ha hb
  exact ⟨by omega, by omega⟩
theorem iB_t {p : Prop} (h : p) : (1 : Int) = iB p := (if_pos h).symm
theorem iB_f {p : Prop} (h : ¬ p) : (0 : Int) = iB p := (if_neg h).symm
theorem iB_01 (p : Prop) : iB p = 0 ∨ iB p = 1 := by
  by_cases h : p
  · exact Or.inr (iB_t h).symm
  · exact Or.inl (iB_f h).symm
theorem iB_ne {p : Prop} (h : ¬ iB p = 0) : p := by
  by_cases c : p
  · exact c
  · exact absurd (iB_f c).symm h
theorem iB_eq {p : Prop} (h : iB p = 0) : ¬ p := fun c => by
  rw [← iB_t c] at h
  exact absurd h (by decide)
theorem iB_1 {p : Prop} (h : iB p = 1) : p := iB_ne (by rw [h]; decide)
theorem iB_iff {p q : Prop} (h : p ↔ q) : iB p = iB q := by rw [propext h]
theorem iB_r (p : Prop) : 0 ≤ iB p ∧ iB p ≤ 1 := by
  rcases iB_01 p with h | h <;> omega
def upR (R : Int → Int) (k v : Int) : Int → Int := fun j => if j = k then v else R j
theorem upR_s (R : Int → Int) (k v : Int) : upR R k v k = v := if_pos rfl
theorem upR_n (R : Int → Int) {k j : Int} (v : Int) (h : j ≠ k) : upR R k v j = R j := if_neg h
theorem gI_up (h : zH) (a : zNm) (k v : Int) : gI (setI h a k v) a = upR (gI h a) k v := by
  funext j
  rw [gI_setI]
  unfold upR
  by_cases e : j = k
  · rw [if_pos ⟨rfl, e⟩, if_pos e]
  · rw [if_neg (fun z => e z.2), if_neg e]
theorem gI_ot (h : zH) {a b : zNm} (k v : Int) (hb : b ≠ a) : gI (setI h a k v) b = gI h b := by
  funext j
  exact setI_ne b j hb
/-- a row within its range says all of it -/
theorem row_ext {h h' : zH} (hw : zWfH h) (hw' : zWfH h') {a b : zNm} {kd kd' N : Nat} (ha : gT h a = some (kd, N)) (hb : gT h' b = some (kd', N)) (e : ∀ j : Int, 0 ≤ j → j < N → gI h a j = gI h' b j) : gI h a = gI h' b := by
  funext j
  by_cases c : 0 ≤ j ∧ j < N
  · exact e j c.1 c.2
  · rw [((hw a kd N ha).2 j (by omega)).1, ((hw' b kd' N hb).2 j (by omega)).1]
/-- the row is of an allowed size -/
def RW (R : Int → Int) : Prop := (4 ≤ R 0 ∧ R 0 ≤ 16) ∧ 4 ≤ R 1 ∧ R 1 ≤ 16
theorem RW.c {R : Int → Int} (h : RW R) : 16 ≤ R 0 * R 1 ∧ R 0 * R 1 ≤ 256 := mul16 h.1 h.2
theorem RW.xy {R : Int → Int} (h : RW R) {c : Int} (hc : 0 ≤ c ∧ c < R 0 * R 1) : (0 ≤ c % R 0 ∧ c % R 0 < R 0) ∧ 0 ≤ c / R 0 ∧ c / R 0 < R 1 := by
  have h0 : 0 < R 0 := by have := h.1.1; omega
  refine ⟨⟨Int.emod_nonneg _ (by omega), Int.emod_lt_of_pos _ h0⟩, Int.ediv_nonneg hc.1 (by omega), ?_⟩
  exact Int.ediv_lt_of_lt_mul h0 (by rw [Int.mul_comm (R 1)]; exact hc.2)
theorem cell_lt {w g x y : Int} (hx : 0 ≤ x ∧ x < w) (hy : 0 ≤ y ∧ y < g) : 0 ≤ w * y + x ∧ w * y + x < w * g := by
  have h1 : 0 ≤ w * y := Int.mul_nonneg (by omega) hy.1
  have h2 : w * (y + 1) ≤ w * g := Int.mul_le_mul_of_nonneg_left (by omega) (by omega)
  rw [Int.mul_add, Int.mul_one] at h2
  omega
theorem cell_x {w x y : Int} (hx : 0 ≤ x ∧ x < w) : (w * y + x) % w = x := by
  rw [Int.add_comm, Int.add_mul_emod_self_left]
  exact Int.emod_eq_of_lt hx.1 hx.2
theorem cell_y {w x y : Int} (hx : 0 ≤ x ∧ x < w) : (w * y + x) / w = y := by
  rw [Int.add_comm, Int.add_mul_ediv_left _ _ (by omega), Int.ediv_eq_zero_of_lt hx.1 hx.2, Int.zero_add]
theorem sBeside_r {R : Int → Int} (h : RW R) {c d : Int} : sBeside R c d = -1 ∨ 0 ≤ sBeside R c d ∧ sBeside R c d < R 0 * R 1 := by
  unfold sBeside
  split
  · rename_i q
    exact Or.inr (cell_lt (by omega) (by omega))
  · exact Or.inl rfl
abbrev sIsCell (R : Int → Int) (c : Int) : Prop := 0 ≤ c ∧ c ≤ R 0 * R 1 - 1
abbrev sIsDoor (R : Int → Int) (d : Int) : Prop := 0 ≤ d ∧ d ≤ R 2 - 1
def sDoorAt (R : Int → Int) (c : Int) : Prop := ∃ d : Int, 0 ≤ d ∧ d < R 2 ∧ R (3 + d) = c
def sWalkAt (R : Int → Int) (c : Int) : Prop := ∃ k : Int, 0 ≤ k ∧ k < R 157 ∧ R (158 + 6 * k) = c
def sAbs (v : Int) : Int := if v < 0 then -v else v
