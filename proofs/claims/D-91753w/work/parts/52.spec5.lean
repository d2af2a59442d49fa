/-! WHERE A WALKER STANDS, for the twin -/
def Wk (h : zH) (R : Int → Int) (b mu t here goal last came : Int) (tx : zTx) (crowd : Int → Int) : Prop := (TwT h) ∧ (gI h (1, 5) = R) ∧ (gI h (1, 0) 28 = b) ∧ (gI h (1, 0) 29 = mu) ∧ (gI h (1, 0) 34 = here) ∧ (gI h (1, 0) 35 = goal) ∧ (gI h (1, 0) 36 = t) ∧ (gI h (1, 0) 37 = last) ∧ (gI h (1, 0) 38 = came) ∧ ((gI h (1, 0) 39 = 1 ∧ crowd = fun _ => 0) ∨ (gI h (1, 0) 39 = 0 ∧ crowd = sCrowd R)) ∧ (RW R) ∧ (0 ≤ t ∧ t < 8) ∧ (TxR h t tx) ∧ (0 ≤ here ∧ here < R 0 * R 1) ∧ (0 ≤ goal ∧ goal < R 0 * R 1) ∧ (-1 ≤ last ∧ last < 8) ∧ (0 ≤ b ∧ b ≤ 999) ∧ (∀ c, 0 ≤ c → c < R 0 * R 1 → (0 ≤ cel R c 2 ∧ cel R c 2 ≤ 15) ∧ (0 ≤ cel R c 3 ∧ cel R c 3 ≤ 999) ∧ 0 ≤ cel R c 4 ∧ cel R c 4 ≤ 200) ∧ (0 ≤ R 157 ∧ R 157 ≤ 60)
theorem Wk.tw {h : zH} {R : Int → Int} {b mu t here goal last came : Int} {tx : zTx} {crowd : Int → Int} (W : Wk h R b mu t here goal last came tx crowd) : TwT h := W.1
theorem Wk.r {h : zH} {R : Int → Int} {b mu t here goal last came : Int} {tx : zTx} {crowd : Int → Int} (W : Wk h R b mu t here goal last came tx crowd) : gI h (1, 5) = R := W.2.1
theorem Wk.b28 {h : zH} {R : Int → Int} {b mu t here goal last came : Int} {tx : zTx} {crowd : Int → Int} (W : Wk h R b mu t here goal last came tx crowd) : gI h (1, 0) 28 = b := W.2.2.1
theorem Wk.b29 {h : zH} {R : Int → Int} {b mu t here goal last came : Int} {tx : zTx} {crowd : Int → Int} (W : Wk h R b mu t here goal last came tx crowd) : gI h (1, 0) 29 = mu := W.2.2.2.1
theorem Wk.e34 {h : zH} {R : Int → Int} {b mu t here goal last came : Int} {tx : zTx} {crowd : Int → Int} (W : Wk h R b mu t here goal last came tx crowd) : gI h (1, 0) 34 = here := W.2.2.2.2.1
theorem Wk.e35 {h : zH} {R : Int → Int} {b mu t here goal last came : Int} {tx : zTx} {crowd : Int → Int} (W : Wk h R b mu t here goal last came tx crowd) : gI h (1, 0) 35 = goal := W.2.2.2.2.2.1
theorem Wk.e36 {h : zH} {R : Int → Int} {b mu t here goal last came : Int} {tx : zTx} {crowd : Int → Int} (W : Wk h R b mu t here goal last came tx crowd) : gI h (1, 0) 36 = t := W.2.2.2.2.2.2.1
theorem Wk.e37 {h : zH} {R : Int → Int} {b mu t here goal last came : Int} {tx : zTx} {crowd : Int → Int} (W : Wk h R b mu t here goal last came tx crowd) : gI h (1, 0) 37 = last := W.2.2.2.2.2.2.2.1
theorem Wk.e38 {h : zH} {R : Int → Int} {b mu t here goal last came : Int} {tx : zTx} {crowd : Int → Int} (W : Wk h R b mu t here goal last came tx crowd) : gI h (1, 0) 38 = came := W.2.2.2.2.2.2.2.2.1
theorem Wk.al {h : zH} {R : Int → Int} {b mu t here goal last came : Int} {tx : zTx} {crowd : Int → Int} (W : Wk h R b mu t here goal last came tx crowd) : (gI h (1, 0) 39 = 1 ∧ crowd = fun _ => 0) ∨ (gI h (1, 0) 39 = 0 ∧ crowd = sCrowd R) := W.2.2.2.2.2.2.2.2.2.1
theorem Wk.hw {h : zH} {R : Int → Int} {b mu t here goal last came : Int} {tx : zTx} {crowd : Int → Int} (W : Wk h R b mu t here goal last came tx crowd) : RW R := W.2.2.2.2.2.2.2.2.2.2.1
theorem Wk.ht {h : zH} {R : Int → Int} {b mu t here goal last came : Int} {tx : zTx} {crowd : Int → Int} (W : Wk h R b mu t here goal last came tx crowd) : 0 ≤ t ∧ t < 8 := W.2.2.2.2.2.2.2.2.2.2.2.1
theorem Wk.xr {h : zH} {R : Int → Int} {b mu t here goal last came : Int} {tx : zTx} {crowd : Int → Int} (W : Wk h R b mu t here goal last came tx crowd) : TxR h t tx := W.2.2.2.2.2.2.2.2.2.2.2.2.1
theorem Wk.hh {h : zH} {R : Int → Int} {b mu t here goal last came : Int} {tx : zTx} {crowd : Int → Int} (W : Wk h R b mu t here goal last came tx crowd) : 0 ≤ here ∧ here < R 0 * R 1 := W.2.2.2.2.2.2.2.2.2.2.2.2.2.1
theorem Wk.hg {h : zH} {R : Int → Int} {b mu t here goal last came : Int} {tx : zTx} {crowd : Int → Int} (W : Wk h R b mu t here goal last came tx crowd) : 0 ≤ goal ∧ goal < R 0 * R 1 := W.2.2.2.2.2.2.2.2.2.2.2.2.2.2.1
theorem Wk.hl {h : zH} {R : Int → Int} {b mu t here goal last came : Int} {tx : zTx} {crowd : Int → Int} (W : Wk h R b mu t here goal last came tx crowd) : -1 ≤ last ∧ last < 8 := W.2.2.2.2.2.2.2.2.2.2.2.2.2.2.2.1
theorem Wk.hb {h : zH} {R : Int → Int} {b mu t here goal last came : Int} {tx : zTx} {crowd : Int → Int} (W : Wk h R b mu t here goal last came tx crowd) : 0 ≤ b ∧ b ≤ 999 := W.2.2.2.2.2.2.2.2.2.2.2.2.2.2.2.2.1
theorem Wk.cs {h : zH} {R : Int → Int} {b mu t here goal last came : Int} {tx : zTx} {crowd : Int → Int} (W : Wk h R b mu t here goal last came tx crowd) : ∀ c, 0 ≤ c → c < R 0 * R 1 → (0 ≤ cel R c 2 ∧ cel R c 2 ≤ 15) ∧ (0 ≤ cel R c 3 ∧ cel R c 3 ≤ 999) ∧ 0 ≤ cel R c 4 ∧ cel R c 4 ≤ 200 := W.2.2.2.2.2.2.2.2.2.2.2.2.2.2.2.2.2.1
theorem Wk.km {h : zH} {R : Int → Int} {b mu t here goal last came : Int} {tx : zTx} {crowd : Int → Int} (W : Wk h R b mu t here goal last came tx crowd) : 0 ≤ R 157 ∧ R 157 ≤ 60 := W.2.2.2.2.2.2.2.2.2.2.2.2.2.2.2.2.2.2
theorem Wk.mk {h : zH} {R : Int → Int} {b mu t here goal last came : Int} {tx : zTx} {crowd : Int → Int} (m_tw : TwT h) (m_r : gI h (1, 5) = R) (m_b28 : gI h (1, 0) 28 = b) (m_b29 : gI h (1, 0) 29 = mu) (m_e34 : gI h (1, 0) 34 = here) (m_e35 : gI h (1, 0) 35 = goal) (m_e36 : gI h (1, 0) 36 = t) (m_e37 : gI h (1, 0) 37 = last) (m_e38 : gI h (1, 0) 38 = came) (m_al : (gI h (1, 0) 39 = 1 ∧ crowd = fun _ => 0) ∨ (gI h (1, 0) 39 = 0 ∧ crowd = sCrowd R)) (m_hw : RW R) (m_ht : 0 ≤ t ∧ t < 8) (m_xr : TxR h t tx) (m_hh : 0 ≤ here ∧ here < R 0 * R 1) (m_hg : 0 ≤ goal ∧ goal < R 0 * R 1) (m_hl : -1 ≤ last ∧ last < 8) (m_hb : 0 ≤ b ∧ b ≤ 999) (m_cs : ∀ c, 0 ≤ c → c < R 0 * R 1 → (0 ≤ cel R c 2 ∧ cel R c 2 ≤ 15) ∧ (0 ≤ cel R c 3 ∧ cel R c 3 ≤ 999) ∧ 0 ≤ cel R c 4 ∧ cel R c 4 ≤ 200) (m_km : 0 ≤ R 157 ∧ R 157 ≤ 60) : Wk h R b mu t here goal last came tx crowd := ⟨m_tw, m_r, m_b28, m_b29, m_e34, m_e35, m_e36, m_e37, m_e38, m_al, m_hw, m_ht, m_xr, m_hh, m_hg, m_hl, m_hb, m_cs, m_km⟩
theorem Wk.same {h h' : zH} {R : Int → Int} {b mu t here goal last came : Int} {tx : zTx} {crowd : Int → Int} (W : Wk h R b mu t here goal last came tx crowd) (hS : Same (fun a _ => a = (1, 33)) h h') : Wk h' R b mu t here goal last came tx crowd := by
  have e : ∀ j, gI h' (1, 0) j = gI h (1, 0) j := fun j => hS.2.2 _ _ (n1 (by decide))
  exact Wk.mk (W.tw.same hS) ((hS.row fun _ => n1 (by decide)).trans W.r) ((e _).trans W.b28) ((e _).trans W.b29) ((e _).trans W.e34) ((e _).trans W.e35) ((e _).trans W.e36) ((e _).trans W.e37) ((e _).trans W.e38) (by rw [e]; exact W.al) W.hw W.ht (W.xr.same hS (fun k i k1 k2 => n1 (by omega))) W.hh W.hg W.hl W.hb W.cs W.km
theorem txTold_wf {kd u : Int} : ∀ tx : zTx, (txFind kd tx = none ∧ txTold kd u tx = u) ∨ ∃ q, q ∈ tx ∧ q.1 = kd ∧ txFind kd tx = some q ∧ txTold kd u tx = q.2.2.1
  | [] => Or.inl ⟨rfl, rfl⟩
  | q :: l => by
    by_cases c : q.1 = kd
    · have e : txFind kd (q :: l) = some q := by unfold txFind; rw [if_pos c]
      exact Or.inr ⟨q, List.mem_cons_self, c, e, by unfold txTold; rw [e]⟩
    · have e : txFind kd (q :: l) = txFind kd l := by show (if q.1 = kd then some q else txFind kd l) = _; rw [if_neg c]
      rcases txTold_wf (kd := kd) (u := u) l with ⟨h1, h2⟩ | ⟨x, h1, h2, h3, h4⟩
      · exact Or.inl ⟨e.trans h1, by unfold txTold; rw [e, h1]⟩
      · exact Or.inr ⟨x, List.mem_cons_of_mem _ h1, h2, e.trans h3, by unfold txTold; rw [e, h3]⟩
theorem sSight_r {tx : zTx} (h : ∀ q ∈ tx, WLn q) : ((sSight tx : Nat) : Int) = txTold 7 3 tx ∧ sSight tx ≤ 9 := by
  unfold sSight
  rcases txTold_wf (kd := 7) (u := 3) tx with ⟨h1, h2⟩ | ⟨x, h1, h2, h3, h4⟩
  · rw [h2]; exact ⟨rfl, by decide⟩
  · rw [h4]
    obtain ⟨⟨w1, -⟩, -, -, w2, -⟩ := h x h1
    have := w2 h2
    omega
theorem txFind_at {kd : Int} : ∀ (tx : zTx) (n : Nat) (q : zLn), tx[n]? = some q → q.1 = kd → (∀ (j : Nat) (s : zLn), j < n → tx[j]? = some s → s.1 ≠ kd) → txFind kd tx = some q
  | [], n, q, h, _, _ => by rw [List.getElem?_nil] at h; cases h
  | a :: l, n, q, h, hk, hn => by
    show (if a.1 = kd then some a else txFind kd l) = some q
    cases n with
    | zero =>
      rw [List.getElem?_cons_zero] at h
      cases h
      rw [if_pos hk]
    | succ n =>
      rw [if_neg (hn 0 a (Nat.succ_pos n) rfl)]
      exact txFind_at l n q (by rw [List.getElem?_cons_succ] at h; exact h) hk (fun j s hj hs => hn (j + 1) s (by omega) (by rw [List.getElem?_cons_succ]; exact hs))
theorem txFind_no {kd : Int} : ∀ tx : zTx, (∀ q ∈ tx, q.1 ≠ kd) → txFind kd tx = none
  | [], _ => rfl
  | a :: l, h => by
    show (if a.1 = kd then some a else txFind kd l) = none
    rw [if_neg (h a List.mem_cons_self)]
    exact txFind_no l fun q hq => h q (List.mem_cons_of_mem _ hq)
/-- what the twin's find says of a text -/
theorem find_tx {h : zH} {t kd x : Int} {tx : zTx} (u : Int) (hX : TxR h t tx) (hf : (∃ k, (0 ≤ k ∧ k < gI h (1, 9) t) ∧ gI h (1, 10) (16 * t + k) = kd ∧ (∀ j, 0 ≤ j → j < k → gI h (1, 10) (16 * t + j) ≠ kd) ∧ x = 16 * t + k) ∨ ((∀ j, 0 ≤ j → j < gI h (1, 9) t → gI h (1, 10) (16 * t + j) ≠ kd) ∧ x = -1)) : (x = -1 ∧ txFind kd tx = none ∧ txTold kd u tx = u) ∨ ((16 * t ≤ x ∧ x < 16 * t + 16) ∧ gI h (1, 12) x = txTold kd u tx ∧ ∃ q, txFind kd tx = some q) := by
  obtain ⟨x1, x2, x3⟩ := hX
  rcases hf with ⟨k, k1, k2, k3, rfl⟩ | ⟨k3, rfl⟩
  · obtain ⟨n, rfl⟩ := Int.eq_ofNat_of_zero_le k1.1
    have hn : n < tx.length := by omega
    have e := List.getElem?_eq_getElem hn
    obtain ⟨l1, l2, l3, -⟩ := x3 n _ e
    have h9 := txFind_at tx n _ e (l1.symm.trans k2) (fun j s hj hs => by rw [← (x3 j s hs).1]; exact k3 j (by omega) (by omega))
    exact Or.inr ⟨by omega, by unfold txTold; rw [h9]; exact l3, _, h9⟩
  · have h9 := txFind_no (kd := kd) tx (fun q hq => by obtain ⟨n, hn⟩ := List.getElem?_of_mem hq; rw [← (x3 n q hn).1]; exact k3 n (by omega) (by have := List.getElem?_eq_some_iff.mp hn; obtain ⟨h8, -⟩ := this; omega))
    exact Or.inl ⟨rfl, h9, by unfold txTold; rw [h9]⟩
theorem mulR {a b m n : Int} (ha : 0 ≤ a ∧ a ≤ m) (hb : 0 ≤ b ∧ b ≤ n) : 0 ≤ a * b ∧ a * b ≤ m * n := ⟨Int.mul_nonneg ha.1 hb.1, Int.mul_le_mul ha.2 hb.2 hb.1 (by omega)⟩
theorem sCrowd_r (R : Int → Int) (c : Int) (h : 0 ≤ R 157 ∧ R 157 ≤ 60) : 0 ≤ sCrowd R c ∧ sCrowd R c ≤ 60 := by
  unfold sCrowd
  have := cntP_r (fun k => R (158 + 6 * k) = c) (R 157).toNat
  omega
theorem sMeas_r {R : Int → Int} {b here last came : Int} {sight : Nat} {crowd : Int → Int} {c d w : Int} (hs : sight ≤ 9) (hb : 0 ≤ b ∧ b ≤ 999) (hq : 0 ≤ cel R c 3) (h4 : 0 ≤ cel R c 4 ∧ cel R c 4 ≤ 200) (h2 : 0 ≤ cel R c 2 ∧ cel R c 2 ≤ 15) (h2' : 0 ≤ cel R here 2 ∧ cel R here 2 ≤ 15) (hc : 0 ≤ crowd c ∧ crowd c ≤ 60) : 0 ≤ sMeas R b sight here last came crowd c d w ∧ sMeas R b sight here last came crowd c d w ≤ 99 := by
  unfold sMeas
  split
  · by_cases e : sGreen R c ∧ ¬ sWorn R b c
    · rw [zIf_t e]
      have e1 : ¬ b ≤ cel R c 3 := e.2
      omega
    · rw [zIf_f e]
      decide
  split
  · omega
  split
  · unfold sAbs; split <;> omega
  split
  · omega
  split
  · have := iB_r (0 ≤ last ∧ last ≠ d); omega
  split
  · have := iB_r (c = came); omega
  have := sSees_r R b d sight c
  omega
theorem Wk.cr {h : zH} {R : Int → Int} {b mu t here goal last came : Int} {tx : zTx} {crowd : Int → Int} (W : Wk h R b mu t here goal last came tx crowd) (c : Int) : 0 ≤ crowd c ∧ crowd c ≤ 60 := by
  rcases W.al with ⟨-, e⟩ | ⟨-, e⟩
  · rw [e]; show 0 ≤ (0 : Int) ∧ (0 : Int) ≤ 60; decide
  · rw [e]; exact sCrowd_r R c W.km
theorem sFar_r {R : Int → Int} (hw : RW R) {a g : Int} (ha : 0 ≤ a ∧ a < R 0 * R 1) (hg : 0 ≤ g ∧ g < R 0 * R 1) : 0 ≤ sFar R a g ∧ sFar R a g ≤ 210 := by
  have h1 := hw.xy ha
  have h2 := hw.xy hg
  have h3 := hw.1
  have h4 := hw.2
  have e1 : 0 ≤ sAbs (a % R 0 - g % R 0) ∧ sAbs (a % R 0 - g % R 0) ≤ 15 := by unfold sAbs; split <;> omega
  have e2 : 0 ≤ sAbs (a / R 0 - g / R 0) ∧ sAbs (a / R 0 - g / R 0) ≤ 15 := by unfold sAbs; split <;> omega
  unfold sFar
  dsimp only
  split <;> omega
/-- a cell beside is near -/
theorem beside_near {R : Int → Int} (hw : RW R) {c d : Int} (hb : 0 ≤ sBeside R c d) : sAbs (c % R 0 - sBeside R c d % R 0) < 2 ∧ sAbs (c / R 0 - sBeside R c d / R 0) < 2 := by
  unfold sBeside at hb ⊢
  split at hb
  · rename_i q
    rw [if_pos q, cell_x (by omega), cell_y (by omega)]
    have he : -1 ≤ sEast d ∧ sEast d ≤ 1 := by unfold sEast; omega
    have hs : -1 ≤ sSouth d ∧ sSouth d ≤ 1 := by unfold sSouth; omega
    unfold sAbs
    constructor <;> split <;> omega
  · omega
theorem sGoalD_no {g : Int → Int} {goal : Int} : ∀ (n : Nat) (d : Int), (∀ e, g e ≠ goal) → sGoalD g goal n d = -1
  | 0, _, _ => rfl
  | n + 1, d, h => by
    show (if g d = goal then d else sGoalD g goal n (d + 1)) = -1
    rw [if_neg (h d)]
    exact sGoalD_no n (d + 1) h
