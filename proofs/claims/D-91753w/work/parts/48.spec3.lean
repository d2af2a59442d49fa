/-! WHAT IS COMPUTED, 3: texts: lines with conditions in reverse Polish steps -/
abbrev zStep : Type := Int × Int × Int
/-- a line: its kind, what it is about, its number, its condition (none: []) -/
abbrev zLn : Type := Int × Int × Int × List zStep
abbrev zTx : Type := List zLn
def aV (cell : Int → Int) (w : Int) : Int := if w = 8 then cell 3 else if w = 9 then cell 4 else if w = 10 then cell 2 else cell 5
def aFlag (cell : Int → Int) (b mu w : Int) : Prop :=
  (w = 0 ∧ cell 0 = 0) ∨ (w = 1 ∧ cell 0 = 1) ∨ (w = 2 ∧ cell 0 = 2) ∨ (w = 3 ∧ cell 0 = 4) ∨ (w = 4 ∧ cell 0 = 5) ∨ (w = 5 ∧ cell 1 = 1) ∨ (w = 6 ∧ b ≤ cell 3 ∧ mu ≤ cell 4) ∨ (w = 7 ∧ b ≤ cell 3)
theorem aFlag_0 {cell : Int → Int} {b mu : Int} : aFlag cell b mu 0 ↔ cell 0 = 0 := by
  unfold aFlag
  omega
theorem aFlag_1 {cell : Int → Int} {b mu : Int} : aFlag cell b mu 1 ↔ cell 0 = 1 := by
  unfold aFlag
  omega
theorem aFlag_2 {cell : Int → Int} {b mu : Int} : aFlag cell b mu 2 ↔ cell 0 = 2 := by
  unfold aFlag
  omega
theorem aFlag_3 {cell : Int → Int} {b mu : Int} : aFlag cell b mu 3 ↔ cell 0 = 4 := by
  unfold aFlag
  omega
theorem aFlag_4 {cell : Int → Int} {b mu : Int} : aFlag cell b mu 4 ↔ cell 0 = 5 := by
  unfold aFlag
  omega
theorem aFlag_5 {cell : Int → Int} {b mu : Int} : aFlag cell b mu 5 ↔ cell 1 = 1 := by
  unfold aFlag
  omega
theorem aFlag_6 {cell : Int → Int} {b mu : Int} : aFlag cell b mu 6 ↔ b ≤ cell 3 ∧ mu ≤ cell 4 := by
  unfold aFlag
  omega
theorem aFlag_7 {cell : Int → Int} {b mu : Int} : aFlag cell b mu 7 ↔ b ≤ cell 3 := by
  unfold aFlag
  omega
def aRel (s v n : Int) : Prop := (s = 60 ∧ v < n) ∨ (s = 61 ∧ v = n) ∨ (s ≠ 60 ∧ s ≠ 61 ∧ n < v)
/-- whether a cell is what a step asks for -/
def aTrue (cell : Int → Int) (b mu : Int) (st : zStep) : Prop := (st.1 < 8 ∧ aFlag cell b mu st.1) ∨ (8 ≤ st.1 ∧ aRel st.2.1 (aV cell st.1) st.2.2)
theorem aTrue_lo {cell : Int → Int} {b mu : Int} {s : zStep} (h : s.1 < 8) : aTrue cell b mu s ↔ aFlag cell b mu s.1 := by
  unfold aTrue
  exact ⟨fun z => z.elim (fun q => q.2) (fun q => absurd q.1 (by omega)), fun z => Or.inl ⟨h, z⟩⟩
theorem aTrue_hi {cell : Int → Int} {b mu : Int} {s : zStep} (h : 8 ≤ s.1) : aTrue cell b mu s ↔ aRel s.2.1 (aV cell s.1) s.2.2 := by
  unfold aTrue
  exact ⟨fun z => z.elim (fun q => absurd q.1 (by omega)) (fun q => q.2), fun z => Or.inr ⟨h, z⟩⟩
def rSt (A : zStep → Prop) (st : List Prop) (s : zStep) : List Prop :=
  if s.1 = 20 then (match st with
    | x :: t => (¬ x) :: t
    | [] => [])
  else if s.1 = 21 then (match st with
    | y :: x :: t => (x ∧ y) :: t
    | t => t)
  else if s.1 = 22 then (match st with
    | y :: x :: t => (x ∨ y) :: t
    | t => t)
  else A s :: st
def rRun (A : zStep → Prop) : List zStep → List Prop → List Prop
  | [], st => st
  | s :: l, st => rRun A l (rSt A st s)
/-- whether a condition holds -/
def cHolds (A : zStep → Prop) (l : List zStep) : Prop := l = [] ∨ (rRun A l []).getD 0 False
/-- the steps, from d truths on, come to one, and never to more than 60 -/
def wfC : List zStep → Nat → Prop
  | [], d => d = 1
  | s :: l, d => (s.1 = 20 ∧ 1 ≤ d ∧ wfC l d) ∨ ((s.1 = 21 ∨ s.1 = 22) ∧ 2 ≤ d ∧ wfC l (d - 1)) ∨ ((0 ≤ s.1 ∧ s.1 ≤ 11) ∧ d < 60 ∧ wfC l (d + 1))
/-- a line within bounds -/
def WLn (q : zLn) : Prop := (0 ≤ q.2.2.1 ∧ q.2.2.1 ≤ 999) ∧ (0 ≤ q.2.1 ∧ q.2.1 ≤ 6) ∧ (q.1 = 5 → q.2.2.1 ≤ 99) ∧ (q.1 = 7 → q.2.2.1 ≤ 9) ∧ (q.2.2.2 = [] ∨ wfC q.2.2.2 0)
/-- the twin's line x of text t -/
def LnR (h : zH) (t x : Int) (q : zLn) : Prop := gI h (1, 10) x = q.1 ∧ gI h (1, 11) x = q.2.1 ∧ gI h (1, 12) x = q.2.2.1 ∧ (0 ≤ gI h (1, 13) x ∧ gI h (1, 14) x = gI h (1, 13) x + q.2.2.2.length ∧ gI h (1, 14) x ≤ 200) ∧
  (∀ (j : Nat) (s : zStep), q.2.2.2[j]? = some s → gI h (1, 15) (200 * t + gI h (1, 13) x + j) = s.1 ∧ gI h (1, 16) (200 * t + gI h (1, 13) x + j) = s.2.1 ∧ gI h (1, 17) (200 * t + gI h (1, 13) x + j) = s.2.2) ∧ WLn q
/-- the twin's text t -/
def TxR (h : zH) (t : Int) (tx : zTx) : Prop := gI h (1, 9) t = tx.length ∧ tx.length ≤ 16 ∧ ∀ (k : Nat) (q : zLn), tx[k]? = some q → LnR h t (16 * t + k) q
/-- places of the twin that texts lie in -/
abbrev cTx (a : zNm) (_ : Int) : Prop := a.1 = 1 ∧ 9 ≤ a.2 ∧ a.2 ≤ 17
theorem LnR.same {C : zNm → Int → Prop} {h h' : zH} (hS : Same C h h') (hC : ∀ k j, 9 ≤ k → k ≤ 17 → ¬ C (1, k) j) {t x : Int} {q : zLn} (hL : LnR h t x q) : LnR h' t x q := by
  have r : ∀ k j, 9 ≤ k → k ≤ 17 → gI h' (1, k) j = gI h (1, k) j := fun k j k1 k2 => hS.2.2 _ _ (hC k j k1 k2)
  unfold LnR
  rw [r 10 x (by decide) (by decide), r 11 x (by decide) (by decide), r 12 x (by decide) (by decide), r 13 x (by decide) (by decide), r 14 x (by decide) (by decide)]
  obtain ⟨e1, e2, e3, e4, e5, e6⟩ := hL
  refine ⟨e1, e2, e3, e4, fun j s hs => ?_, e6⟩
  rw [r 15 _ (by decide) (by decide), r 16 _ (by decide) (by decide), r 17 _ (by decide) (by decide)]
  exact e5 j s hs
theorem TxR.same {C : zNm → Int → Prop} {h h' : zH} (hS : Same C h h') (hC : ∀ k j, 9 ≤ k → k ≤ 17 → ¬ C (1, k) j) {t : Int} {tx : zTx} (hT : TxR h t tx) : TxR h' t tx := by
  obtain ⟨e1, e2, e3⟩ := hT
  exact ⟨by rw [hS.2.2 _ _ (hC 9 t (by decide) (by decide))]; exact e1, e2, fun k q hq => (e3 k q hq).same hS hC⟩
/-- the first line of a kind -/
def txFind (kd : Int) : zTx → Option zLn
  | [] => none
  | q :: l => if q.1 = kd then some q else txFind kd l
/-- the number of the first line of a kind that holds -/
noncomputable def txFirst (A : zStep → Prop) (kd usual : Int) : zTx → Int
  | [] => usual
  | q :: l => zIf (q.1 = kd ∧ cHolds A q.2.2.2) q.2.2.1 (txFirst A kd usual l)
def txTold (kd usual : Int) (tx : zTx) : Int := match txFind kd tx with
  | none => usual
  | some q => q.2.2.1
def txNever (A : zStep → Prop) (tx : zTx) : Prop := ∃ q, q ∈ tx ∧ q.1 = 6 ∧ cHolds A q.2.2.2
theorem txFirst_r {A : zStep → Prop} {kd usual : Int} (hu : 0 ≤ usual ∧ usual ≤ 999) : ∀ tx : zTx, (∀ q ∈ tx, WLn q) → 0 ≤ txFirst A kd usual tx ∧ txFirst A kd usual tx ≤ 999
  | [], _ => hu
  | q :: l, h => by
    have h1 := txFirst_r (A := A) (kd := kd) hu l (fun x hx => h x (List.mem_cons_of_mem _ hx))
    have h2 := (h q List.mem_cons_self).1
    unfold txFirst
    by_cases c : q.1 = kd ∧ cHolds A q.2.2.2
    · rw [zIf_t c]; exact h2
    · rw [zIf_f c]; exact h1
theorem TxR.wf {h : zH} {t : Int} {tx : zTx} (hT : TxR h t tx) : ∀ q ∈ tx, WLn q := by
  intro q hq
  obtain ⟨k, hk⟩ := List.getElem?_of_mem hq
  exact (hT.2.2 k q hk).2.2.2.2.2
/-- the truths on the twin's row 33 -/
def TrR (h : zH) (st : List Prop) : Prop := ∀ i : Nat, i < st.length → gI h (1, 33) ((st.length : Int) - 1 - i) = iB (st.getD i False)
theorem TrR.push {h : zH} {st : List Prop} (hT : TrR h st) (p : Prop) : TrR (setI h (1, 33) st.length (iB p)) (p :: st) := by
  intro i hi
  rw [List.length_cons] at hi
  rw [List.length_cons, gI_setI]
  cases i with
  | zero =>
    rw [if_pos ⟨rfl, by omega⟩]
    rfl
  | succ i =>
    rw [if_neg (by omega)]
    have := hT i (by omega)
    rw [show ((st.length + 1 : Nat) : Int) - 1 - ((i + 1 : Nat) : Int) = (st.length : Int) - 1 - i by omega, this]
    rfl
theorem TrR.tl {h : zH} {p : Prop} {st : List Prop} (hT : TrR h (p :: st)) : TrR h st := by
  intro i hi
  have := hT (i + 1) (by rw [List.length_cons]; omega)
  rw [List.length_cons, show ((st.length + 1 : Nat) : Int) - 1 - ((i + 1 : Nat) : Int) = (st.length : Int) - 1 - i by omega] at this
  exact this
theorem TrR.top {h : zH} {p : Prop} {st : List Prop} (hT : TrR h (p :: st)) : gI h (1, 33) st.length = iB p := by
  have := hT 0 (by rw [List.length_cons]; omega)
  rw [List.length_cons, show ((st.length + 1 : Nat) : Int) - 1 - ((0 : Nat) : Int) = (st.length : Int) by omega] at this
  exact this
theorem TrR.fit {h : zH} {st : List Prop} (hT : TrR h st) {j v : Int} (hj : (st.length : Int) ≤ j) : TrR (setI h (1, 33) j v) st := by
  intro i hi
  rw [gI_setI, if_neg (by omega)]
  exact hT i hi
