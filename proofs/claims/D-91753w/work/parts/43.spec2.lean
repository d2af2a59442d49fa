/-! WHAT IS COMPUTED, 2: rows changed cell by cell -/
/-- the first n cells' numbers by f, the rest as in R -/
def mapC (n : Int) (f : Int → Int → Int) (R : Int → Int) : Int → Int := fun j => if 522 ≤ j ∧ (j - 522) / 7 < n then f ((j - 522) / 7) ((j - 522) % 7) else R j
theorem mapC_0 (f : Int → Int → Int) (R : Int → Int) : mapC 0 f R = R := by
  funext j
  unfold mapC
  rw [if_neg (by omega)]
theorem mapC_cel {n : Int} {f : Int → Int → Int} {R : Int → Int} {c w : Int} (hc : 0 ≤ c) (hw : 0 ≤ w ∧ w < 7) : cel (mapC n f R) c w = if c < n then f c w else cel R c w := by
  unfold cel mapC
  have e1 : (522 + 7 * c + w - 522) / 7 = c := by omega
  have e2 : (522 + 7 * c + w - 522) % 7 = w := by omega
  rw [e1, e2]
  by_cases h : c < n
  · rw [if_pos ⟨by omega, h⟩, if_pos h]
  · rw [if_neg (fun z => h z.2), if_neg h]
theorem mapC_lo {n : Int} {f : Int → Int → Int} {R : Int → Int} {j : Int} (hj : j < 522) : mapC n f R j = R j := by
  unfold mapC
  rw [if_neg (by omega)]
/-- one cell more -/
theorem mapC_s {i : Int} (hi : 0 ≤ i) {f : Int → Int → Int} {R R' : Int → Int} (h1 : ∀ w, 0 ≤ w → w < 7 → R' (522 + 7 * i + w) = f i w) (h2 : ∀ j, (j < 522 + 7 * i ∨ 522 + 7 * i + 7 ≤ j) → R' j = mapC i f R j) : R' = mapC (i + 1) f R := by
  funext j
  by_cases c : 522 + 7 * i ≤ j ∧ j < 522 + 7 * i + 7
  · have e := h1 (j - 522 - 7 * i) (by omega) (by omega)
    rw [show 522 + 7 * i + (j - 522 - 7 * i) = j by omega] at e
    rw [e]
    unfold mapC
    rw [if_pos (by omega)]
    congr 1 <;> omega
  · rw [h2 j (by omega)]
    unfold mapC
    by_cases d : 522 ≤ j ∧ (j - 522) / 7 < i
    · rw [if_pos d, if_pos (by omega)]
    · rw [if_neg d, if_neg (by omega)]
def sLay (R : Int → Int) (c k : Int) : Int → Int := if k = 0 ∨ k = 2 then upR R (522 + 7 * c) k else upR (upR R (522 + 7 * c) k) (522 + 7 * c + 3) 0
def sSnow (R : Int → Int) : Int → Int := mapC (R 0 * R 1) (fun c w => if w = 6 then 0 else cel R c w) R
def sRain (R : Int → Int) (n : Int) : Int → Int := mapC (R 0 * R 1) (fun c w => if w = 4 ∧ cel R c 0 < 3 then (if 200 < cel R c 4 + n then 200 else cel R c 4 + n) else cel R c w) R
/-- how many of the first n hold -/
noncomputable def cntP (p : Int → Prop) : Nat → Int
  | 0 => 0
  | n + 1 => cntP p n + iB (p n)
theorem cntP_r (p : Int → Prop) : ∀ n : Nat, 0 ≤ cntP p n ∧ cntP p n ≤ n
  | 0 => ⟨Int.le_refl 0, Int.le_refl 0⟩
  | n + 1 => by
    have h1 := cntP_r p n
    have h2 := iB_r (p n)
    show 0 ≤ cntP p n + iB (p n) ∧ cntP p n + iB (p n) ≤ ((n + 1 : Nat) : Int)
    omega
theorem cntP_s (p : Int → Prop) {i : Int} (hi : 0 ≤ i) : cntP p (i + 1).toNat = cntP p i.toNat + iB (p i) := by
  obtain ⟨n, rfl⟩ := Int.eq_ofNat_of_zero_le hi
  rfl
theorem cntP_congr {p q : Int → Prop} : ∀ n : Nat, (∀ i : Int, 0 ≤ i → i < n → (p i ↔ q i)) → cntP p n = cntP q n
  | 0, _ => rfl
  | n + 1, h => by
    show cntP p n + iB (p n) = cntP q n + iB (q n)
    rw [cntP_congr n (fun i h1 h2 => h i h1 (by omega)), iB_iff (h n (by omega) (by omega))]
noncomputable def sNet (R : Int → Int) (b : Int) : Int := cntP (fun c => sWorn R b c) (R 0 * R 1).toNat
theorem n57 : ¬ ((1, 5) : zNm) = (1, 7) := by decide
theorem n75 : ¬ ((1, 7) : zNm) = (1, 5) := by decide
theorem Same.sym {C : zNm → Int → Prop} {h0 h1 : zH} (a : Same C h0 h1) : Same C h1 h0 := ⟨a.1.symm, a.2.1.symm, fun x j c => (a.2.2 x j c).symm⟩
theorem Same.row {C : zNm → Int → Prop} {h0 h1 : zH} (a : Same C h0 h1) {x : zNm} (hx : ∀ j, ¬ C x j) : gI h1 x = gI h0 x := by
  funext j
  exact a.2.2 x j (hx j)
/-- the twin has no exception pending -/
def thr (h : zH) : zH := setI h (1, 0) 0 0
/-- n bytes of v, the highest first, to the tape from place L on -/
def sFour (t : Int → Int) (L v : Int) : Int → Int := fun j => if j = L then i8 (v / 16777216) else if j = L + 1 then i8 (v / 65536) else if j = L + 2 then i8 (v / 256) else if j = L + 3 then i8 v else t j
def sFeed (t : Int → Int) (L a b c d e : Int) : Int → Int := sFour (sFour (sFour (sFour (sFour t L a) (L + 4) b) (L + 8) c) (L + 12) d) (L + 16) e
def sWish (R : Int → Int) (a b hb ev fi : Int) : Int → Int := fun j => if j = 12 then R 12 + 1 else if j = 13 + 6 * R 12 then a else if j = 13 + 6 * R 12 + 1 then b else if j = 13 + 6 * R 12 + 2 then hb else if j = 13 + 6 * R 12 + 3 then ev else if j = 13 + 6 * R 12 + 4 then fi else if j = 13 + 6 * R 12 + 5 then 1 else R j
/-- wishes that aren't gone -/
def sAlive (R : Int → Int) : Nat → Int
  | 0 => 0
  | n + 1 => sAlive R n + R (13 + 6 * n + 5)
theorem iB_inj {p q : Prop} (h : iB p = iB q) : p ↔ q := by
  by_cases a : p
  · rw [← iB_t a] at h
    exact ⟨fun _ => iB_1 h.symm, fun _ => a⟩
  · rw [← iB_f a] at h
    exact ⟨fun z => absurd z a, fun z => absurd z (iB_eq h.symm)⟩
theorem n1 {a b : Int} (h : a ≠ b) : ¬ ((1, a) : zNm) = (1, b) := fun z => h (congrArg Prod.snd z)
