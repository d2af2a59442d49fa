/-! CASES: weeks gone on with, the first of a row of tries -/
set_option maxRecDepth 100000
def sWks (g : (Int → Int) → (Int → Int)) : Nat → (Int → Int) → (Int → Int)
  | 0, R => R
  | n + 1, R => g (sWks g n R)
noncomputable def sUp (p : Int → Prop) : Nat → Int → Int
  | 0, _ => -1
  | n + 1, i => zIf (p i) i (sUp p n (i + 1))
theorem sUp_r (p : Int → Prop) : ∀ (n : Nat) (i : Int), sUp p n i = -1 ∨ (i ≤ sUp p n i ∧ sUp p n i < i + n ∧ p (sUp p n i))
  | 0, _ => Or.inl rfl
  | n + 1, i => by
    unfold sUp
    by_cases c : p i
    · rw [zIf_t c]; exact Or.inr ⟨Int.le_refl _, by omega, c⟩
    · rw [zIf_f c]
      rcases sUp_r p n (i + 1) with h | ⟨h1, h2, h3⟩
      · exact Or.inl h
      · exact Or.inr ⟨by omega, by omega, h3⟩
def sSameW (b : Int) (R R' : Int → Int) : Prop := ∀ c, 0 ≤ c → c < R 0 * R 1 → (sWorn R b c ↔ sWorn R' b c)
/-- scratch: places of the twin that no later answer rests on -/
def cC (a : zNm) (j : Int) : Prop := a.1 = 1 ∧ (a.2 = 7 ∨ a.2 = 33 ∨ (43 ≤ a.2 ∧ a.2 ≤ 48) ∨ a.2 = 54 ∨ a.2 = 56 ∨ a.2 = 59 ∨ (a.2 = 0 ∧ (34 ≤ j ∧ j ≤ 39 ∨ j = 41 ∨ j = 42 ∨ 49 ≤ j ∧ j ≤ 51 ∨ j = 60)))
def cC5 (a : zNm) (j : Int) : Prop := cC a j ∨ a = (1, 5)
theorem cC_in {k j : Int} (h : k = 7 ∨ k = 33 ∨ (43 ≤ k ∧ k ≤ 48) ∨ k = 54 ∨ k = 56 ∨ k = 59 ∨ (k = 0 ∧ (34 ≤ j ∧ j ≤ 39 ∨ j = 41 ∨ j = 42 ∨ 49 ≤ j ∧ j ≤ 51 ∨ j = 60))) : cC (1, k) j := ⟨rfl, h⟩
theorem cC5_in {k j : Int} (h : k = 7 ∨ k = 33 ∨ (43 ≤ k ∧ k ≤ 48) ∨ k = 54 ∨ k = 56 ∨ k = 59 ∨ (k = 0 ∧ (34 ≤ j ∧ j ≤ 39 ∨ j = 41 ∨ j = 42 ∨ 49 ≤ j ∧ j ≤ 51 ∨ j = 60)) ∨ k = 5) : cC5 (1, k) j := by
  by_cases e : k = 5
  · exact Or.inr (by rw [e])
  · exact Or.inl ⟨rfl, show k = 7 ∨ _ by omega⟩
theorem cC_no {k j : Int} (h : ¬ (k = 7 ∨ k = 33 ∨ (43 ≤ k ∧ k ≤ 48) ∨ k = 54 ∨ k = 56 ∨ k = 59 ∨ (k = 0 ∧ (34 ≤ j ∧ j ≤ 39 ∨ j = 41 ∨ j = 42 ∨ 49 ≤ j ∧ j ≤ 51 ∨ j = 60)))) : ¬ cC (1, k) j := fun z => h z.2
theorem cC5_no {k j : Int} (h : ¬ (k = 7 ∨ k = 33 ∨ (43 ≤ k ∧ k ≤ 48) ∨ k = 54 ∨ k = 56 ∨ k = 59 ∨ (k = 0 ∧ (34 ≤ j ∧ j ≤ 39 ∨ j = 41 ∨ j = 42 ∨ 49 ≤ j ∧ j ≤ 51 ∨ j = 60)) ∨ k = 5)) : ¬ cC5 (1, k) j := by
  rintro (z | z)
  · exact cC_no (by omega) z
  · exact n1 (by omega) z
theorem cC5_of {C : zNm → Int → Prop} {h h' : zH} (hS : Same C h h') (hC : ∀ k j, C (1, k) j → (k = 7 ∨ k = 33 ∨ (43 ≤ k ∧ k ≤ 48) ∨ k = 54 ∨ k = 56 ∨ k = 59 ∨ (k = 0 ∧ (34 ≤ j ∧ j ≤ 39 ∨ j = 41 ∨ j = 42 ∨ 49 ≤ j ∧ j ≤ 51 ∨ j = 60)) ∨ k = 5)) (hC1 : ∀ a j, C a j → a.1 = 1) : Same cC5 h h' := hS.mono fun a j z => by
  have e := hC1 a j z
  have e2 : a = (1, a.2) := by rw [← e]
  rw [e2] at z ⊢
  exact cC5_in (hC _ _ z)
theorem cW_5 {h h' : zH} (hS : Same cW h h') : Same cC5 h h' := cC5_of hS (fun k j z => by
    rcases z with z | z | ⟨z, z'⟩
    · have := congrArg Prod.snd z; simp only at this; omega
    · have := congrArg Prod.snd z; simp only at this; omega
    · have := congrArg Prod.snd z; simp only at this; omega) (fun a j z => by rcases z with z | z | ⟨z, -⟩ <;> rw [z])
theorem c1_5 {k : Int} {h h' : zH} (hS : Same (fun a _ => a = (1, k)) h h') (hk : k = 7 ∨ k = 33 ∨ (43 ≤ k ∧ k ≤ 48) ∨ k = 54 ∨ k = 56 ∨ k = 59 ∨ k = 5) : Same cC5 h h' := cC5_of hS (fun i j z => by have := congrArg Prod.snd z; simp only at this; omega) (fun a j z => by rw [z])
/-- the row is as it was -/
theorem cC5_back {h h' : zH} (hS : Same cC5 h h') (e : gI h' (1, 5) = gI h (1, 5)) : Same cC h h' := ⟨hS.1, hS.2.1, fun a j z => by
  by_cases c : a = (1, 5)
  · rw [c, e]
  · exact hS.2.2 a j (fun q => q.elim z c)⟩
/-- the twin as a case wants it -/
def TwD (h : zH) (B b mu dry : Int) (tx0 : zTx) (hs : Int → zTx) : Prop := (TwK h B b mu tx0 hs) ∧ (gI h (1, 0) 30 = dry) ∧ (0 ≤ dry ∧ dry ≤ 999)
theorem TwD.k {h : zH} {B b mu dry : Int} {tx0 : zTx} {hs : Int → zTx} (W : TwD h B b mu dry tx0 hs) : TwK h B b mu tx0 hs := W.1
theorem TwD.d30 {h : zH} {B b mu dry : Int} {tx0 : zTx} {hs : Int → zTx} (W : TwD h B b mu dry tx0 hs) : gI h (1, 0) 30 = dry := W.2.1
theorem TwD.hd {h : zH} {B b mu dry : Int} {tx0 : zTx} {hs : Int → zTx} (W : TwD h B b mu dry tx0 hs) : 0 ≤ dry ∧ dry ≤ 999 := W.2.2
theorem TwD.mk {h : zH} {B b mu dry : Int} {tx0 : zTx} {hs : Int → zTx} (m_k : TwK h B b mu tx0 hs) (m_d30 : gI h (1, 0) 30 = dry) (m_hd : 0 ≤ dry ∧ dry ≤ 999) : TwD h B b mu dry tx0 hs := ⟨m_k, m_d30, m_hd⟩
theorem TwD.same {h h' : zH} {B B' b mu dry : Int} {tx0 : zTx} {hs : Int → zTx} (T : TwD h B b mu dry tx0 hs) (hS : Same cC5 h h') (hok : RowOK B' (-1) (gI h' (1, 5))) : TwD h' B' b mu dry tx0 hs :=
  TwD.mk (TwK.mk (T.k.tw.same hS) hok ((hS.2.2 _ _ (cC5_no (by decide))).trans T.k.b28) ((hS.2.2 _ _ (cC5_no (by decide))).trans T.k.b29) T.k.hb (T.k.t0.same hS (fun k i k1 k2 => cC5_no (by omega))) (fun t t1 t2 => (T.k.ts t t1 t2).same hS (fun k i k1 k2 => cC5_no (by omega)))) ((hS.2.2 _ _ (cC5_no (by decide))).trans T.d30) T.hd
theorem RowOK.wks {b mu B dry : Int} {R : Int → Int} {tx0 : zTx} {hs : Int → zTx} (hx : ∀ q ∈ tx0, WLn q) (hd : 0 ≤ dry ∧ dry ≤ 999) (h : RowOK B (-1) R) {t : Nat} (ht : t ≤ 200) : ∀ n : Nat, RowOK (B + 20000 * n) (-1) (sWks (sGo b mu dry tx0 hs t) n R) ∧ (∀ j, j < 157 → sWks (sGo b mu dry tx0 hs t) n R j = R j)
  | 0 => ⟨by rw [show B + 20000 * ((0 : Nat) : Int) = B by omega]; exact h, fun _ _ => rfl⟩
  | n + 1 => by
    obtain ⟨h1, h2⟩ := RowOK.wks hx hd h ht n
    obtain ⟨g1, g2, g3⟩ := h1.go (b := b) (mu := mu) (hs := hs) hx hd t
    exact ⟨g1.mono (by omega), fun j hj => (g2 j hj).trans (h2 j hj)⟩
theorem RowOK.fence {B kx : Int} {R : Int → Int} (h : RowOK B kx R) {c : Int} (hc : 0 ≤ c ∧ c < 256) (hn : ¬ sDoorAt R c) : RowOK B kx (sLay R c 6) := by
  have lo : ∀ j, j < 522 → sLay R c 6 j = R j := fun j hj => by
    unfold sLay
    rw [if_neg (by decide), upR_n _ _ (by omega), upR_n _ _ (by omega)]
  have k9 : ∀ c' w, 0 ≤ w ∧ w < 7 → cel (sLay R c 6) c' w = if c' = c ∧ w = 3 then 0 else if c' = c ∧ w = 0 then 6 else cel R c' w := fun c' w hw => by
    unfold sLay cel upR
    rw [if_neg (by decide)]
    try dsimp only
    by_cases e : c' = c ∧ w = 3
    · rw [if_pos (by omega), if_pos e]
    rw [if_neg (by omega), if_neg e]
    by_cases e2 : c' = c ∧ w = 0
    · rw [if_pos (by omega), if_pos e2]
    · rw [if_neg (by omega), if_neg e2]
  have ok := h.hd
  refine RowOK.mk (RHd.mk ?_ ?_ ?_ ?_ ?_ ?_) (h.wk.congr fun j _ h2 => lo j (by omega)) ?_ (fun c' c1 c2 => ?_)
  · rw [RW, lo 0 (by decide), lo 1 (by decide)]; exact ok.rw
  · rw [lo 2 (by decide)]; exact ok.d
  · intro i i1 i2
    rw [lo 2 (by decide)] at i2
    have hd := ok.d
    have h9 := ok.dc i i1 i2
    rw [lo (3 + i) (by omega), lo 0 (by decide), lo 1 (by decide)]
    refine ⟨h9.1, ?_⟩
    have hne : R (3 + i) ≠ c := fun e => hn ⟨i, i1, i2, e⟩
    have := h9.2
    rw [sBears, k9 _ 0 (by decide), if_neg (fun z => hne z.1), if_neg (fun z => hne z.1)]
    exact this
  · intro i j i1 i2 i3
    rw [lo 2 (by decide)] at i3
    have hd := ok.d
    rw [lo (3 + i) (by omega), lo (3 + j) (by omega)]
    exact ok.dd i j i1 i2 i3
  · rw [lo 12 (by decide)]; exact ok.wm
  · intro k k1 k2
    rw [lo 12 (by decide)] at k2
    have hm := ok.wm
    rw [lo (13 + 6 * k) (by omega), lo (13 + 6 * k + 1) (by omega), lo (13 + 6 * k + 2) (by omega), lo (13 + 6 * k + 3) (by omega), lo (13 + 6 * k + 4) (by omega), lo (13 + 6 * k + 5) (by omega), lo 2 (by decide)]
    exact ok.ws k k1 k2
  · have := h.ct
    unfold RCt at this ⊢
    rw [lo 518 (by decide), lo 519 (by decide), lo 520 (by decide), lo 521 (by decide)]
    exact this
  · have h9 := h.cl c' c1 c2
    have e1 := k9 c' 1 (by decide)
    have e2 := k9 c' 2 (by decide)
    have e4 := k9 c' 4 (by decide)
    have e5 := k9 c' 5 (by decide)
    have e6 := k9 c' 6 (by decide)
    have e0 := k9 c' 0 (by decide)
    have e3 := k9 c' 3 (by decide)
    rw [if_neg (by omega), if_neg (by omega)] at e1 e2 e4 e5 e6
    rw [sGreen, e1, e2, e4, e5, e6, e0, e3]
    by_cases e : c' = c
    · rw [if_neg (by omega), if_pos ⟨e, rfl⟩, if_pos ⟨e, rfl⟩]
      exact ⟨by omega, h9.2.1, h9.2.2.1, by omega, fun _ => rfl, h9.2.2.2.2.2⟩
    · rw [if_neg (fun z => e z.1), if_neg (fun z => e z.1), if_neg (fun z => e z.1), if_neg (fun z => e z.1)]
      exact h9
/-- snow grows -/
theorem sGoes_sn {B : Int} {R : Int → Int} (h : RowOK B (-1) R) {b mu : Int} {tx0 : zTx} {hs : Int → zTx} {k : Int} (k1 : 0 ≤ k) (k2 : k < R 157) {c : Int} (hc : 0 ≤ c) : cel R c 6 ≤ cel (sGoes R b mu tx0 hs (158 + 6 * k)).1 c 6 := by
  have hm := h.wk.1
  have e : cel R c 6 ≤ cel (sStep R b mu tx0 hs (158 + 6 * k)) c 6 := by
    unfold sStep
    try dsimp only
    split
    · rename_i q
      have hd8 := (sWay_r h b mu hs k1 k2).resolve_left (by omega)
      generalize hR4 : upR (upR (upR (upR R (158 + 6 * k + 2) (R (158 + 6 * k + 2) + 1)) (158 + 6 * k + 3) (sWay R b mu hs (158 + 6 * k))) (158 + 6 * k + 4) (R (158 + 6 * k))) (158 + 6 * k) (sBeside R (R (158 + 6 * k)) (sWay R b mu hs (158 + 6 * k))) = R4
      have g : ∀ c', 0 ≤ c' → cel R4 c' 6 = cel R c' 6 := fun c' h' => by
        rw [← hR4]
        show upR _ _ _ _ = _
        rw [upR_n _ _ (by omega), upR_n _ _ (by omega), upR_n _ _ (by omega), upR_n _ _ (by omega)]
        rfl
      rw [sTread_cel (by decide), if_neg (by omega), if_neg (by omega), g c hc, g _ hd8.2.1]
      split
      · rename_i z; rw [z.1]; omega
      · exact Int.le_refl _
    · show R _ ≤ upR _ _ _ _
      rw [upR_n _ _ (by omega)]
      exact Int.le_refl _
  unfold sGoes
  try dsimp only
  split
  · show _ ≤ upR _ _ _ _
    rw [upR_n _ _ (by omega)]; exact e
  split
  · exact e
  · show _ ≤ upR _ _ _ _
    rw [upR_n _ _ (by omega)]; exact e
theorem sWalks_sn {b mu : Int} {tx0 : zTx} {hs : Int → zTx} (hx : ∀ q ∈ tx0, WLn q) {c : Int} (hc : 0 ≤ c) : ∀ (n : Nat) (k B : Int) (R : Int → Int), RowOK B (-1) R → 0 ≤ k → cel R c 6 ≤ cel (sWalks b mu tx0 hs n k R) c 6
  | 0, _, _, R, _, _ => Int.le_refl _
  | n + 1, k, B, R, h, hk => by
    show _ ≤ cel (if k < R 157 then _ else R) c 6
    split
    · rename_i q
      obtain ⟨g1, g2⟩ := h.goes (b := b) (mu := mu) (hs := hs) hk q hx
      have g3 : (sGoes R b mu tx0 hs (158 + 6 * k)).1 157 = R 157 := sGoes_lo h hk q (by decide)
      have g4 := sGoes_sn h (b := b) (mu := mu) (tx0 := tx0) (hs := hs) hk q hc
      have hm := h.wk.1
      by_cases s : (sGoes R b mu tx0 hs (158 + 6 * k)).2
      · rw [zIf_t s]
        exact Int.le_trans g4 (sWalks_sn hx hc n (k + 1) (B + 1) _ (g2 s) (by omega))
      · rw [zIf_f s]
        have g5 := sWalks_sn (b := b) (mu := mu) (hs := hs) hx hc n k (B + 1) _ (g1.leave hk (by rw [g3]; exact q)) hk
        have g6 : cel (sLeave (sGoes R b mu tx0 hs (158 + 6 * k)).1 k) c 6 = cel (sGoes R b mu tx0 hs (158 + 6 * k)).1 c 6 := by
          show sLeave _ _ _ = _
          unfold sLeave
          rw [if_neg (by omega), if_neg (by rw [g3]; omega), if_neg (by rw [g3]; omega)]
          rfl
        rw [g6] at g5
        exact Int.le_trans g4 g5
    · exact Int.le_refl _
theorem sTick_sn {B b mu : Int} {R : Int → Int} {tx0 : zTx} {hs : Int → zTx} (hx : ∀ q ∈ tx0, WLn q) (h : RowOK B (-1) R) {c : Int} (hc : 0 ≤ c) : cel R c 6 ≤ cel (sTick b mu tx0 hs R) c 6 := by
  have hm := h.hd.wm
  obtain ⟨h1, h2, h3, h4, -⟩ := h.spawn (R 12).toNat (by omega)
  have g := sWalks_sn (b := b) (mu := mu) (hs := hs) hx hc 61 0 _ _ h1 (by decide)
  have e : cel (sSpawn R (R 12).toNat) c 6 = cel R c 6 := h4 _ (by omega)
  have e2 : cel (sTick b mu tx0 hs R) c 6 = cel (sWalks b mu tx0 hs 61 0 (sSpawn R (R 12).toNat)) c 6 := by
    show upR _ _ _ _ = _
    rw [upR_n _ _ (by omega)]
    rfl
  omega
theorem sTicks_sn {B b mu : Int} {R : Int → Int} {tx0 : zTx} {hs : Int → zTx} (hx : ∀ q ∈ tx0, WLn q) (h : RowOK B (-1) R) {c : Int} (hc : 0 ≤ c) (m : Nat) : ∀ n : Nat, m ≤ n → cel (sTicks b mu tx0 hs m R) c 6 ≤ cel (sTicks b mu tx0 hs n R) c 6
  | 0, hn => by rw [show m = 0 by omega]; exact Int.le_refl _
  | n + 1, hn => by
    by_cases e : m = n + 1
    · rw [e]; exact Int.le_refl _
    · exact Int.le_trans (sTicks_sn hx h hc m n (by omega)) (sTick_sn hx (RowOK.ticks (b := b) (mu := mu) (hs := hs) hx h n).1 hc)
