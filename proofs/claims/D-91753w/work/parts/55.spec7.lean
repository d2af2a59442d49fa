/-! TICKS: rows, and what a tick does to the twin's other fields -/
set_option maxRecDepth 100000
theorem sGoes_lo {B : Int} {R : Int → Int} (h : RowOK B (-1) R) {b mu : Int} {tx0 : zTx} {hs : Int → zTx} {k : Int} (k1 : 0 ≤ k) (k2 : k < R 157) {j : Int} (hj : j < 158 ∨ j = 518) : (sGoes R b mu tx0 hs (158 + 6 * k)).1 j = R j := by
  have hm := h.wk.1
  have e : sStep R b mu tx0 hs (158 + 6 * k) j = R j := by
    unfold sStep
    try dsimp only
    split
    · rename_i c
      have hd8 := (sWay_r h b mu hs k1 k2).resolve_left (by omega)
      rw [sTread_lo hd8.2.1 (by omega), upR_n _ _ (by omega), upR_n _ _ (by omega), upR_n _ _ (by omega), upR_n _ _ (by omega)]
    · exact upR_n _ _ (by omega)
  unfold sGoes
  try dsimp only
  split
  · rw [upR_n _ _ (by omega)]; exact e
  split
  · exact e
  · rw [upR_n _ _ (by omega)]; exact e
theorem RowOK.spawn {B : Int} {R : Int → Int} (h : RowOK B (-1) R) : ∀ n : Nat, (n : Int) ≤ R 12 → RowOK (B + n) (-1) (sSpawn R n) ∧ (∀ j, j < 157 → sSpawn R n j = R j) ∧ sSpawn R n 518 = R 518 ∧ (∀ j, 522 ≤ j → sSpawn R n j = R j) ∧ sSpawn R n 519 = R 519
  | 0, _ => ⟨by rw [show B + ((0 : Nat) : Int) = B by omega]; exact h, fun _ _ => rfl, rfl, fun _ _ => rfl, rfl⟩
  | n + 1, hn => by
    obtain ⟨h1, h2, h3, h4, h5⟩ := RowOK.spawn h n (by omega)
    obtain ⟨g1, g2, g3, g4, g5⟩ := h1.spawn1 (k := n) (by omega) (by rw [h2 12 (by decide)]; omega)
    refine ⟨?_, fun j hj => (g2 j hj).trans (h2 j hj), g3.trans h3, fun j hj => (g4 j hj).trans (h4 j hj), g5.trans h5⟩
    rw [show B + ((n + 1 : Nat) : Int) = B + n + 1 by omega]
    exact g1
theorem RowOK.walks {b mu : Int} {tx0 : zTx} {hs : Int → zTx} (hx : ∀ q ∈ tx0, WLn q) : ∀ (n : Nat) (k B : Int) (R : Int → Int), RowOK B (-1) R → 0 ≤ k → RowOK (B + n) (-1) (sWalks b mu tx0 hs n k R) ∧ (∀ j, j < 157 ∨ j = 518 → sWalks b mu tx0 hs n k R j = R j)
  | 0, k, B, R, h, _ => ⟨by rw [show B + ((0 : Nat) : Int) = B by omega]; exact h, fun _ _ => rfl⟩
  | n + 1, k, B, R, h, hk => by
    show RowOK _ _ (if k < R 157 then _ else R) ∧ ∀ j, _ → (if k < R 157 then _ else R) j = R j
    split
    · rename_i c
      obtain ⟨g1, g2⟩ := h.goes (b := b) (mu := mu) (hs := hs) hk c hx
      have g3 : ∀ j, j < 158 ∨ j = 518 → (sGoes R b mu tx0 hs (158 + 6 * k)).1 j = R j := fun j hj => sGoes_lo h hk c hj
      have e9 : B + ((n + 1 : Nat) : Int) = B + 1 + n := by omega
      by_cases s : (sGoes R b mu tx0 hs (158 + 6 * k)).2
      · rw [zIf_t s, e9]
        obtain ⟨i1, i2⟩ := RowOK.walks hx n (k + 1) (B + 1) _ (g2 s) (by omega)
        exact ⟨i1, fun j hj => (i2 j hj).trans (g3 j (by omega))⟩
      · rw [zIf_f s, e9]
        obtain ⟨i1, i2⟩ := RowOK.walks hx n k (B + 1) _ (g1.leave hk (by rw [g3 157 (by decide)]; exact c)) hk
        exact ⟨i1, fun j hj => (i2 j hj).trans (by unfold sLeave; rw [if_neg (by omega), if_neg (by rw [g3 157 (by decide)]; have := h.wk.1; omega), if_neg (by rw [g3 157 (by decide)]; have := h.wk.1; omega)]; exact g3 j (by omega))⟩
    · exact ⟨h.mono (by omega), fun _ _ => rfl⟩
theorem RowOK.tick {b mu B : Int} {R : Int → Int} {tx0 : zTx} {hs : Int → zTx} (hx : ∀ q ∈ tx0, WLn q) (h : RowOK B (-1) R) : RowOK (B + 100) (-1) (sTick b mu tx0 hs R) ∧ (∀ j, j < 157 → sTick b mu tx0 hs R j = R j) ∧ sTick b mu tx0 hs R 518 = R 518 + 1 := by
  have hm := h.hd.wm
  obtain ⟨h1, h2, h3, -, -⟩ := h.spawn (R 12).toNat (by omega)
  obtain ⟨g1, g2⟩ := RowOK.walks (b := b) (mu := mu) (hs := hs) hx 61 0 _ _ h1 (by decide)
  unfold sTick
  try dsimp only
  refine ⟨?_, fun j hj => ?_, ?_⟩
  · refine g1.low (fun j _ _ => upR_n _ _ (by omega)) (fun j _ => upR_n _ _ (by omega)) (g1.wk.congr fun j _ _ => upR_n _ _ (by omega)) ?_ (by omega)
    have := g1.ct
    unfold RCt at this ⊢
    rw [upR_s, upR_n _ _ (by decide), upR_n _ _ (by decide), upR_n _ _ (by decide)]
    omega
  · rw [upR_n _ _ (by omega), g2 j (by omega), h2 j hj]
  · rw [upR_s, g2 518 (by decide), h3]
theorem RowOK.ticks {b mu B : Int} {R : Int → Int} {tx0 : zTx} {hs : Int → zTx} (hx : ∀ q ∈ tx0, WLn q) (h : RowOK B (-1) R) : ∀ n : Nat, RowOK (B + 100 * n) (-1) (sTicks b mu tx0 hs n R) ∧ (∀ j, j < 157 → sTicks b mu tx0 hs n R j = R j) ∧ sTicks b mu tx0 hs n R 518 = R 518 + n
  | 0 => ⟨by rw [show B + 100 * ((0 : Nat) : Int) = B by omega]; exact h, fun _ _ => rfl, by show R 518 = R 518 + 0; omega⟩
  | n + 1 => by
    obtain ⟨h1, h2, h3⟩ := RowOK.ticks hx h n
    obtain ⟨g1, g2, g3⟩ := h1.tick (b := b) (mu := mu) (hs := hs) hx
    refine ⟨?_, fun j hj => (g2 j hj).trans (h2 j hj), ?_⟩
    · rw [show B + 100 * ((n + 1 : Nat) : Int) = B + 100 * n + 100 by omega]; exact g1
    · show sTick b mu tx0 hs (sTicks b mu tx0 hs n R) 518 = _
      rw [g3, h3]; omega
theorem RowOK.week {b mu B dry : Int} {R : Int → Int} {tx0 : zTx} (hx : ∀ q ∈ tx0, WLn q) (hd : 0 ≤ dry ∧ dry ≤ 999) (h : RowOK B (-1) R) : RowOK B (-1) (sWeek b mu dry tx0 R) ∧ (∀ j, j < 522 → sWeek b mu dry tx0 R j = R j) := by
  have lo : ∀ j, j < 522 → sWeek b mu dry tx0 R j = R j := fun j hj => mapC_lo hj
  have k9 : ∀ c w, 0 ≤ c → (0 ≤ w ∧ w < 7) → cel (sWeek b mu dry tx0 R) c w = if c < R 0 * R 1 then (if w = 3 then (if cel R c 3 - txFirst (sA R b mu c) 1 10 tx0 < 0 then 0 else cel R c 3 - txFirst (sA R b mu c) 1 10 tx0) else if w = 4 then (if cel R c 4 - dry < 0 then 0 else cel R c 4 - dry) else if w = 5 then 0 else cel R c w) else cel R c w := fun c w hc hw => mapC_cel hc hw
  have k0 : ∀ c w, 0 ≤ c → (w = 0 ∨ w = 1 ∨ w = 2 ∨ w = 6) → cel (sWeek b mu dry tx0 R) c w = cel R c w := fun c w hc hw => by
    rw [k9 c w hc (by omega)]
    split
    · rw [if_neg (by omega), if_neg (by omega), if_neg (by omega)]
    · rfl
  refine ⟨RowOK.mk (h.hd.congr (fun j _ h2 => lo j (by omega)) (fun c c1 _ => k0 c 0 c1 (by decide))) (h.wk.congr fun j _ h2 => lo j (by omega)) ?_ (fun c c1 c2 => ?_), lo⟩
  · have := h.ct
    unfold RCt at this ⊢
    rw [lo 518 (by decide), lo 519 (by decide), lo 520 (by decide), lo 521 (by decide)]
    exact this
  · have h9 := h.cl c c1 c2
    have hr := txFirst_r (A := sA R b mu c) (kd := 1) (usual := 10) (by decide) tx0 hx
    rw [sGreen, k0 c 0 c1 (by decide), k0 c 1 c1 (by decide), k0 c 2 c1 (by decide), k0 c 6 c1 (by decide)]
    have e3 := k9 c 3 c1 (by decide)
    have e4 := k9 c 4 c1 (by decide)
    have e5 := k9 c 5 c1 (by decide)
    by_cases e : c < R 0 * R 1
    · rw [if_pos e, if_pos rfl] at e3
      rw [if_pos e, if_neg (by decide), if_pos rfl] at e4
      rw [if_pos e, if_neg (by decide), if_neg (by decide), if_pos rfl] at e5
      rw [e3, e4, e5]
      refine ⟨h9.1, h9.2.1, h9.2.2.1, ?_, fun g => ?_, ?_, ?_, h9.2.2.2.2.2.2.2⟩
      · split <;> omega
      · have := h9.2.2.2.2.1 g
        split <;> omega
      · split <;> omega
      · omega
    · rw [if_neg e] at e3 e4 e5
      rw [e3, e4, e5]
      exact h9
theorem RowOK.go {b mu B dry : Int} {R : Int → Int} {tx0 : zTx} {hs : Int → zTx} (hx : ∀ q ∈ tx0, WLn q) (hd : 0 ≤ dry ∧ dry ≤ 999) (h : RowOK B (-1) R) (n : Nat) : RowOK (B + 100 * n) (-1) (sGo b mu dry tx0 hs n R) ∧ (∀ j, j < 157 → sGo b mu dry tx0 hs n R j = R j) ∧ sGo b mu dry tx0 hs n R 518 = R 518 + n := by
  obtain ⟨h1, h2, h3⟩ := RowOK.ticks (b := b) (mu := mu) (hs := hs) hx h n
  obtain ⟨g1, g2⟩ := h1.week (b := b) (mu := mu) hx hd
  exact ⟨g1, fun j hj => (g2 j (by omega)).trans (h2 j hj), (g2 518 (by decide)).trans h3⟩
/-- places that a tick changes -/
abbrev cW (a : zNm) (j : Int) : Prop := a = (1, 5) ∨ a = (1, 33) ∨ (a = (1, 0) ∧ (34 ≤ j ∧ j ≤ 39 ∨ j = 41 ∨ j = 42))
/-- what a tick does to the twin beside its row -/
def TkR (h h' : zH) : Prop := (Same cW h h') ∧ (0 ≤ gI h (1, 0) 41 → gI h (1, 0) 41 + (gI h' (1, 5) 519 - gI h (1, 5) 519) ≤ 2000000000 → gI h' (1, 0) 41 = gI h (1, 0) 41 + (gI h' (1, 5) 519 - gI h (1, 5) 519)) ∧ (gI h (1, 5) 519 ≤ gI h' (1, 5) 519) ∧ (∀ c, 0 ≤ c → cel (gI h (1, 5)) c 6 ≤ cel (gI h' (1, 5)) c 6) ∧ (gI h (1, 0) 42 = 0 ∨ gI h (1, 0) 42 = 1 → gI h' (1, 0) 42 = iB (gI h (1, 0) 42 = 1 ∨ 0 ≤ gI h (1, 0) 40 ∧ cel (gI h (1, 5)) (gI h (1, 0) 40) 6 < cel (gI h' (1, 5)) (gI h (1, 0) 40) 6))
theorem TkR.s {h h' : zH} (W : TkR h h') : Same cW h h' := W.1
theorem TkR.ar {h h' : zH} (W : TkR h h') : 0 ≤ gI h (1, 0) 41 → gI h (1, 0) 41 + (gI h' (1, 5) 519 - gI h (1, 5) 519) ≤ 2000000000 → gI h' (1, 0) 41 = gI h (1, 0) 41 + (gI h' (1, 5) 519 - gI h (1, 5) 519) := W.2.1
theorem TkR.up {h h' : zH} (W : TkR h h') : gI h (1, 5) 519 ≤ gI h' (1, 5) 519 := W.2.2.1
theorem TkR.sn {h h' : zH} (W : TkR h h') : ∀ c, 0 ≤ c → cel (gI h (1, 5)) c 6 ≤ cel (gI h' (1, 5)) c 6 := W.2.2.2.1
theorem TkR.wt {h h' : zH} (W : TkR h h') : gI h (1, 0) 42 = 0 ∨ gI h (1, 0) 42 = 1 → gI h' (1, 0) 42 = iB (gI h (1, 0) 42 = 1 ∨ 0 ≤ gI h (1, 0) 40 ∧ cel (gI h (1, 5)) (gI h (1, 0) 40) 6 < cel (gI h' (1, 5)) (gI h (1, 0) 40) 6) := W.2.2.2.2
theorem TkR.mk {h h' : zH} (m_s : Same cW h h') (m_ar : 0 ≤ gI h (1, 0) 41 → gI h (1, 0) 41 + (gI h' (1, 5) 519 - gI h (1, 5) 519) ≤ 2000000000 → gI h' (1, 0) 41 = gI h (1, 0) 41 + (gI h' (1, 5) 519 - gI h (1, 5) 519)) (m_up : gI h (1, 5) 519 ≤ gI h' (1, 5) 519) (m_sn : ∀ c, 0 ≤ c → cel (gI h (1, 5)) c 6 ≤ cel (gI h' (1, 5)) c 6) (m_wt : gI h (1, 0) 42 = 0 ∨ gI h (1, 0) 42 = 1 → gI h' (1, 0) 42 = iB (gI h (1, 0) 42 = 1 ∨ 0 ≤ gI h (1, 0) 40 ∧ cel (gI h (1, 5)) (gI h (1, 0) 40) 6 < cel (gI h' (1, 5)) (gI h (1, 0) 40) 6)) : TkR h h' := ⟨m_s, m_ar, m_up, m_sn, m_wt⟩
theorem n0j {a : Int} (h : a ≠ 5) (h' : a ≠ 33) (h0 : a ≠ 0) {j : Int} : ¬ cW (1, a) j := by
  rintro (e | e | ⟨e, -⟩)
  · exact n1 h e
  · exact n1 h' e
  · exact n1 h0 e
theorem n00 {j : Int} (h : ¬ (34 ≤ j ∧ j ≤ 39 ∨ j = 41 ∨ j = 42)) : ¬ cW (1, 0) j := by
  rintro (e | e | ⟨-, e⟩)
  · exact n1 (by decide) e
  · exact n1 (by decide) e
  · exact h e
theorem TkR.rf (h : zH) : TkR h h := by
  refine TkR.mk (Same.rf _ _) (fun _ _ => by omega) (Int.le_refl _) (fun _ _ => Int.le_refl _) (fun e => ?_)
  rcases e with e | e
  · rw [e]; exact iB_f (by omega)
  · rw [e]; exact iB_t (Or.inl rfl)
theorem TkR.tr {h h' h'' : zH} (a : TkR h h') (b : TkR h' h'') : TkR h h'' := by
  have e40 : gI h' (1, 0) 40 = gI h (1, 0) 40 := a.s.2.2 _ _ (n00 (by decide))
  have u1 := a.up
  have u2 := b.up
  refine TkR.mk (a.s.tr b.s) (fun x y => ?_) (by omega) (fun c hc => Int.le_trans (a.sn c hc) (b.sn c hc)) (fun e => ?_)
  · have h1 := a.ar x (by omega)
    have h2 := b.ar (by omega) (by omega)
    omega
  · have h1 := a.wt e
    have h2 := b.wt (by rw [h1]; exact iB_01 _)
    rw [h2, e40, h1]
    apply iB_iff
    constructor
    · rintro (z | z)
      · rcases iB_1 z with z | z
        · exact Or.inl z
        · exact Or.inr ⟨z.1, by have := b.sn _ z.1; omega⟩
      · exact Or.inr ⟨z.1, by have := a.sn _ z.1; omega⟩
    · rintro (z | z)
      · exact Or.inl (iB_t (Or.inl z)).symm
      · by_cases q : cel (gI h (1, 5)) (gI h (1, 0) 40) 6 < cel (gI h' (1, 5)) (gI h (1, 0) 40) 6
        · exact Or.inl (iB_t (Or.inr ⟨z.1, q⟩)).symm
        · exact Or.inr ⟨z.1, by omega⟩
/-- the twin as a tick wants it -/
def TwK (h : zH) (B b mu : Int) (tx0 : zTx) (hs : Int → zTx) : Prop := (TwT h) ∧ (RowOK B (-1) (gI h (1, 5))) ∧ (gI h (1, 0) 28 = b) ∧ (gI h (1, 0) 29 = mu) ∧ (0 ≤ b ∧ b ≤ 999) ∧ (TxR h 0 tx0) ∧ (∀ t, 0 ≤ t → t ≤ 5 → TxR h (1 + t) (hs t))
theorem TwK.tw {h : zH} {B b mu : Int} {tx0 : zTx} {hs : Int → zTx} (W : TwK h B b mu tx0 hs) : TwT h := W.1
theorem TwK.ok {h : zH} {B b mu : Int} {tx0 : zTx} {hs : Int → zTx} (W : TwK h B b mu tx0 hs) : RowOK B (-1) (gI h (1, 5)) := W.2.1
theorem TwK.b28 {h : zH} {B b mu : Int} {tx0 : zTx} {hs : Int → zTx} (W : TwK h B b mu tx0 hs) : gI h (1, 0) 28 = b := W.2.2.1
theorem TwK.b29 {h : zH} {B b mu : Int} {tx0 : zTx} {hs : Int → zTx} (W : TwK h B b mu tx0 hs) : gI h (1, 0) 29 = mu := W.2.2.2.1
theorem TwK.hb {h : zH} {B b mu : Int} {tx0 : zTx} {hs : Int → zTx} (W : TwK h B b mu tx0 hs) : 0 ≤ b ∧ b ≤ 999 := W.2.2.2.2.1
theorem TwK.t0 {h : zH} {B b mu : Int} {tx0 : zTx} {hs : Int → zTx} (W : TwK h B b mu tx0 hs) : TxR h 0 tx0 := W.2.2.2.2.2.1
theorem TwK.ts {h : zH} {B b mu : Int} {tx0 : zTx} {hs : Int → zTx} (W : TwK h B b mu tx0 hs) : ∀ t, 0 ≤ t → t ≤ 5 → TxR h (1 + t) (hs t) := W.2.2.2.2.2.2
theorem TwK.mk {h : zH} {B b mu : Int} {tx0 : zTx} {hs : Int → zTx} (m_tw : TwT h) (m_ok : RowOK B (-1) (gI h (1, 5))) (m_b28 : gI h (1, 0) 28 = b) (m_b29 : gI h (1, 0) 29 = mu) (m_hb : 0 ≤ b ∧ b ≤ 999) (m_t0 : TxR h 0 tx0) (m_ts : ∀ t, 0 ≤ t → t ≤ 5 → TxR h (1 + t) (hs t)) : TwK h B b mu tx0 hs := ⟨m_tw, m_ok, m_b28, m_b29, m_hb, m_t0, m_ts⟩
theorem TwK.same {h h' : zH} {B B' b mu : Int} {tx0 : zTx} {hs : Int → zTx} (T : TwK h B b mu tx0 hs) (hS : Same cW h h') (hok : RowOK B' (-1) (gI h' (1, 5))) : TwK h' B' b mu tx0 hs :=
  TwK.mk (T.tw.same hS) hok ((hS.2.2 _ _ (n00 (by decide))).trans T.b28) ((hS.2.2 _ _ (n00 (by decide))).trans T.b29) T.hb (T.t0.same hS (fun k i k1 k2 => n0j (by omega) (by omega) (by omega))) (fun t t1 t2 => (T.ts t t1 t2).same hS (fun k i k1 k2 => n0j (by omega) (by omega) (by omega)))
