/-! WHAT IS COMPUTED, 4: steps of walkers, ticks, weeks -/
/-- what a walker sees: of at most n cells from v on in a way those that are worn, up to the first that doesn't bear -/
noncomputable def sSees (R : Int → Int) (b d : Int) : Nat → Int → Int
  | 0, _ => 0
  | n + 1, v => zIf (0 ≤ v ∧ sBears R v) (iB (sWorn R b v) + sSees R b d n (sBeside R v d)) 0
theorem sSees_r (R : Int → Int) (b d : Int) : ∀ (n : Nat) (v : Int), 0 ≤ sSees R b d n v ∧ sSees R b d n v ≤ n
  | 0, _ => ⟨Int.le_refl 0, Int.le_refl 0⟩
  | n + 1, v => by
    unfold sSees
    by_cases c : 0 ≤ v ∧ sBears R v
    · rw [zIf_t c]
      have h1 := sSees_r R b d n (sBeside R v d)
      have h2 := iB_r (sWorn R b v)
      omega
    · rw [zIf_f c]
      omega
/-- how many walkers are on c -/
noncomputable def sCrowd (R : Int → Int) (c : Int) : Int := cntP (fun k => R (158 + 6 * k) = c) (R 157).toNat
/-- a measure of cell c, reached by way d; sight, where one stands, the last way, where one came from, the crowd -/
noncomputable def sMeas (R : Int → Int) (b : Int) (sight : Nat) (here last came : Int) (crowd : Int → Int) (c d w : Int) : Int :=
  if w = 0 then zIf (sGreen R c ∧ ¬ sWorn R b c) ((b - cel R c 3) / 10) 0
  else if w = 1 then cel R c 4 / 10
  else if w = 2 then sAbs (cel R c 2 - cel R here 2)
  else if w = 3 then crowd c
  else if w = 4 then iB (0 ≤ last ∧ last ≠ d)
  else if w = 5 then iB (c = came)
  else sSees R b d sight c
noncomputable def txSum (A : zStep → Prop) (M : Int → Int) : zTx → Int
  | [] => 0
  | q :: l => zIf (q.1 = 5 ∧ cHolds A q.2.2.2) (if q.2.1 = 6 then -(q.2.2.1 * M q.2.1) else q.2.2.1 * M q.2.1) 0 + txSum A M l
def sFar (R : Int → Int) (a g : Int) : Int :=
  let x := sAbs (a % R 0 - g % R 0)
  let y := sAbs (a / R 0 - g / R 0)
  if y < x then 10 * x + 4 * y else 10 * y + 4 * x
def sSight (tx : zTx) : Nat := (txTold 7 3 tx).toNat
abbrev sA (R : Int → Int) (b mu c : Int) : zStep → Prop := aTrue (fun w => cel R c w) b mu
noncomputable def sWeight (R : Int → Int) (b mu : Int) (tx : zTx) (here goal last came : Int) (crowd : Int → Int) (c d : Int) : Int :=
  sFar R c goal + txSum (sA R b mu c) (fun w => sMeas R b (sSight tx) here last came crowd c d w) tx
/-- the way that leads to the goal at once -/
def sGoalD (g : Int → Int) (goal : Int) : Nat → Int → Int
  | 0, _ => -1
  | n + 1, d => if g d = goal then d else sGoalD g goal n (d + 1)
/-- the best of the first n ways, and its weight -/
noncomputable def sBest (ok : Int → Prop) (wt : Int → Int) : Nat → Int × Int
  | 0 => (-1, 0)
  | n + 1 => zIf (ok n ∧ ¬ (0 ≤ (sBest ok wt n).1 ∧ (sBest ok wt n).2 ≤ wt n)) ((n : Int), wt n) (sBest ok wt n)
noncomputable def sChoose (R : Int → Int) (b mu : Int) (tx : zTx) (here goal last came : Int) (crowd : Int → Int) : Int :=
  if 0 ≤ sGoalD (sBeside R here) goal 8 0 then sGoalD (sBeside R here) goal 8 0
  else (sBest (fun d => 0 ≤ sBeside R here d ∧ sBears R (sBeside R here d) ∧ ¬ txNever (sA R b mu (sBeside R here d)) tx) (fun d => sWeight R b mu tx here goal last came crowd (sBeside R here d) d) 8).1
theorem sGoalD_r (g : Int → Int) (goal : Int) : ∀ (n : Nat) (d : Int), sGoalD g goal n d = -1 ∨ (d ≤ sGoalD g goal n d ∧ sGoalD g goal n d < d + n ∧ g (sGoalD g goal n d) = goal)
  | 0, _ => Or.inl rfl
  | n + 1, d => by
    unfold sGoalD
    by_cases c : g d = goal
    · rw [if_pos c]; exact Or.inr ⟨Int.le_refl _, by omega, c⟩
    · rw [if_neg c]
      rcases sGoalD_r g goal n (d + 1) with h | ⟨h1, h2, h3⟩
      · exact Or.inl h
      · exact Or.inr ⟨by omega, by omega, h3⟩
theorem sBest_r (ok : Int → Prop) (wt : Int → Int) : ∀ n : Nat, (sBest ok wt n).1 = -1 ∨ (0 ≤ (sBest ok wt n).1 ∧ (sBest ok wt n).1 < n ∧ ok (sBest ok wt n).1)
  | 0 => Or.inl rfl
  | n + 1 => by
    unfold sBest
    by_cases c : ok n ∧ ¬ (0 ≤ (sBest ok wt n).1 ∧ (sBest ok wt n).2 ≤ wt n)
    · rw [zIf_t c]; exact Or.inr ⟨Int.natCast_nonneg n, by show (n : Int) < ((n + 1 : Nat) : Int); omega, c.1⟩
    · rw [zIf_f c]
      rcases sBest_r ok wt n with h | ⟨h1, h2, h3⟩
      · exact Or.inl h
      · exact Or.inr ⟨h1, by omega, h3⟩
theorem sChoose_r (R : Int → Int) (b mu : Int) (tx : zTx) (here goal last came : Int) (crowd : Int → Int) (hg : 0 ≤ goal) : sChoose R b mu tx here goal last came crowd = -1 ∨ ((0 ≤ sChoose R b mu tx here goal last came crowd ∧ sChoose R b mu tx here goal last came crowd < 8) ∧ 0 ≤ sBeside R here (sChoose R b mu tx here goal last came crowd)) := by
  unfold sChoose
  by_cases c : 0 ≤ sGoalD (sBeside R here) goal 8 0
  · rw [if_pos c]
    rcases sGoalD_r (sBeside R here) goal 8 0 with h | ⟨h1, h2, h3⟩
    · omega
    · exact Or.inr ⟨⟨by omega, by omega⟩, by omega⟩
  · rw [if_neg c]
    rcases sBest_r (fun d => 0 ≤ sBeside R here d ∧ sBears R (sBeside R here d) ∧ ¬ txNever (sA R b mu (sBeside R here d)) tx) (fun d => sWeight R b mu tx here goal last came crowd (sBeside R here d) d) 8 with h | ⟨h1, h2, h3⟩
    · exact Or.inl h
    · exact Or.inr ⟨⟨h1, by omega⟩, h3.1⟩
/-- a foot on cell c -/
noncomputable def sTread (R : Int → Int) (b mu : Int) (tx0 : zTx) (c : Int) : Int → Int := fun j =>
  if j = 522 + 7 * c + 3 then zIf (sGreen R c) (if 999 < cel R c 3 + txFirst (sA R b mu c) 0 5 tx0 then 999 else cel R c 3 + txFirst (sA R b mu c) 0 5 tx0) (cel R c 3)
  else if j = 522 + 7 * c + 5 then cel R c 5 + 1
  else if j = 522 + 7 * c + 6 then cel R c 6 + 1
  else R j
/-- where the walker at place w of the row goes -/
noncomputable def sWay (R : Int → Int) (b mu : Int) (hs : Int → zTx) (w : Int) : Int :=
  let x := 13 + 6 * R (w + 1)
  sChoose R b mu (hs (R (x + 2))) (R w) (R (3 + R (x + 1))) (R (w + 3)) (R (w + 4)) (sCrowd R)
/-- .. and its step -/
noncomputable def sStep (R : Int → Int) (b mu : Int) (tx0 : zTx) (hs : Int → zTx) (w : Int) : Int → Int :=
  let d := sWay R b mu hs w
  let R1 := upR R (w + 2) (R (w + 2) + 1)
  if 0 ≤ d then sTread (upR (upR (upR R1 (w + 3) d) (w + 4) (R w)) w (sBeside R (R w) d)) b mu tx0 (sBeside R (R w) d) else R1
def sGoalOf (R : Int → Int) (w : Int) : Int := R (3 + R (13 + 6 * R (w + 1) + 1))
/-- a walker's tick: the row, and whether it stays -/
noncomputable def sGoes (R : Int → Int) (b mu : Int) (tx0 : zTx) (hs : Int → zTx) (w : Int) : (Int → Int) × Prop :=
  let R2 := sStep R b mu tx0 hs w
  (if R2 w = sGoalOf R w then upR R2 519 (R2 519 + 1) else if R2 (w + 2) < 200 then R2 else upR R2 520 (R2 520 + 1), R2 w ≠ sGoalOf R w ∧ R2 (w + 2) < 200)
/-- walker k leaves: those behind it move up -/
def sLeave (R : Int → Int) (k : Int) : Int → Int := fun j =>
  if j = 157 then R 157 - 1
  else if 158 + 6 * k ≤ j ∧ j < 158 + 6 * (R 157 - 1) then R (j + 6)
  else if 158 + 6 * (R 157 - 1) ≤ j ∧ j < 158 + 6 * (R 157 - 1) + 6 then 0
  else R j
def sDue (R : Int → Int) (k : Int) : Prop := R (13 + 6 * k + 5) ≠ 0 ∧ R (13 + 6 * k + 4) ≤ R 518 ∧ (R 518 - R (13 + 6 * k + 4)) % R (13 + 6 * k + 3) = 0
def sNew (R : Int → Int) (k : Int) : Int → Int := fun j =>
  if j = 157 then R 157 + 1
  else if j = 158 + 6 * R 157 then R (3 + R (13 + 6 * k))
  else if j = 158 + 6 * R 157 + 1 then k
  else if j = 158 + 6 * R 157 + 2 then 0
  else if j = 158 + 6 * R 157 + 3 then -1
  else if j = 158 + 6 * R 157 + 4 then -1
  else R j
noncomputable def sSpawn1 (R : Int → Int) (k : Int) : Int → Int := zIf (sDue R k) (if R 157 = 60 then upR R 521 (R 521 + 1) else sNew R k) R
noncomputable def sSpawn (R : Int → Int) : Nat → (Int → Int)
  | 0 => R
  | n + 1 => sSpawn1 (sSpawn R n) n
noncomputable def sWalks (b mu : Int) (tx0 : zTx) (hs : Int → zTx) : Nat → Int → (Int → Int) → (Int → Int)
  | 0, _, R => R
  | n + 1, k, R => if k < R 157 then
      zIf (sGoes R b mu tx0 hs (158 + 6 * k)).2 (sWalks b mu tx0 hs n (k + 1) (sGoes R b mu tx0 hs (158 + 6 * k)).1) (sWalks b mu tx0 hs n k (sLeave (sGoes R b mu tx0 hs (158 + 6 * k)).1 k))
    else R
noncomputable def sTick (b mu : Int) (tx0 : zTx) (hs : Int → zTx) (R : Int → Int) : Int → Int :=
  let R1 := sSpawn R (R 12).toNat
  let R2 := sWalks b mu tx0 hs 61 0 R1
  upR R2 518 (R2 518 + 1)
noncomputable def sTicks (b mu : Int) (tx0 : zTx) (hs : Int → zTx) : Nat → (Int → Int) → (Int → Int)
  | 0, R => R
  | n + 1, R => sTick b mu tx0 hs (sTicks b mu tx0 hs n R)
noncomputable def sWeek (b mu dry : Int) (tx0 : zTx) (R : Int → Int) : Int → Int := mapC (R 0 * R 1) (fun c w => if w = 3 then (if cel R c 3 - txFirst (sA R b mu c) 1 10 tx0 < 0 then 0 else cel R c 3 - txFirst (sA R b mu c) 1 10 tx0) else if w = 4 then (if cel R c 4 - dry < 0 then 0 else cel R c 4 - dry) else if w = 5 then 0 else cel R c w) R
noncomputable def sGo (b mu dry : Int) (tx0 : zTx) (hs : Int → zTx) (n : Nat) (R : Int → Int) : Int → Int := sWeek b mu dry tx0 (sTicks b mu tx0 hs n R)
