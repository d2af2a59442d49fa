/-! WHAT HOLDS OF A ROW at all times, and what keeps it -/
set_option maxRecDepth 100000
section ZH
variable {Γ : zG} {l9 : Launch} {cc : ByteArray} {own nm : String} {nL : Nat} {ret : Option FieldType} {Q : Option zV → zH → Prop} {X : zNm → zH → Prop} {d mc ms : Nat} {pc pc' : Nat} {L : List (Option zV)} {st : List zV} {h : zH} {k n : Nat}
/-- a sum that may go round -/
theorem zs_iaddW {x y : Int} (hΓ : Ctx Γ l9 cc own nm nL ret Q X d mc ms) (hd : decode cc pc = .ok (.iadd, 1)) (hp : pc + 1 = pc') (kk : ∀ z : Int, (inI (x + y) → z = x + y) → SS Γ pc' L (zI z :: st) h k n) : SS Γ pc L (zI y :: zI x :: st) h k n := by
  obtain ⟨z, hz, e⟩ := iO_of (iO (x + y))
  have kk := kk z (fun hr => ((iO_eq hr hz).mp e).symm)
  obtain ⟨p, l, e9, R, s, m, args, below, meth, c, A, D, Q0, X0, mc0, ms0, ρ0, h0⟩ := Γ
  obtain ⟨hx, hb, -⟩ := hΓ
  subst hp
  intro ρ ls H locs hl hS
  have h9 := kk ρ ls H locs hl (hS.tl.tl.cons hz)
  rw [List.map_cons, zVal_I, ← e, iO, Int32.ofInt_add] at h9
  exact lv_iadd hx hb hd h9
end ZH
def RHd (R : Int → Int) : Prop := (RW R) ∧ (0 ≤ R 2 ∧ R 2 ≤ 9) ∧ (∀ i, 0 ≤ i → i < R 2 → (0 ≤ R (3 + i) ∧ R (3 + i) < R 0 * R 1) ∧ sBears R (R (3 + i))) ∧ (∀ i j, 0 ≤ i → i < j → j < R 2 → R (3 + i) ≠ R (3 + j)) ∧ (0 ≤ R 12 ∧ R 12 ≤ 24) ∧ (∀ k, 0 ≤ k → k < R 12 → (0 ≤ R (13 + 6 * k) ∧ R (13 + 6 * k) < R 2) ∧ (0 ≤ R (13 + 6 * k + 1) ∧ R (13 + 6 * k + 1) < R 2) ∧ (0 ≤ R (13 + 6 * k + 2) ∧ R (13 + 6 * k + 2) ≤ 5) ∧ (1 ≤ R (13 + 6 * k + 3) ∧ R (13 + 6 * k + 3) ≤ 200) ∧ (0 ≤ R (13 + 6 * k + 4) ∧ R (13 + 6 * k + 4) ≤ 60000) ∧ 0 ≤ R (13 + 6 * k + 5) ∧ R (13 + 6 * k + 5) ≤ 1)
theorem RHd.rw {R : Int → Int} (W : RHd R) : RW R := W.1
theorem RHd.d {R : Int → Int} (W : RHd R) : 0 ≤ R 2 ∧ R 2 ≤ 9 := W.2.1
theorem RHd.dc {R : Int → Int} (W : RHd R) : ∀ i, 0 ≤ i → i < R 2 → (0 ≤ R (3 + i) ∧ R (3 + i) < R 0 * R 1) ∧ sBears R (R (3 + i)) := W.2.2.1
theorem RHd.dd {R : Int → Int} (W : RHd R) : ∀ i j, 0 ≤ i → i < j → j < R 2 → R (3 + i) ≠ R (3 + j) := W.2.2.2.1
theorem RHd.wm {R : Int → Int} (W : RHd R) : 0 ≤ R 12 ∧ R 12 ≤ 24 := W.2.2.2.2.1
theorem RHd.ws {R : Int → Int} (W : RHd R) : ∀ k, 0 ≤ k → k < R 12 → (0 ≤ R (13 + 6 * k) ∧ R (13 + 6 * k) < R 2) ∧ (0 ≤ R (13 + 6 * k + 1) ∧ R (13 + 6 * k + 1) < R 2) ∧ (0 ≤ R (13 + 6 * k + 2) ∧ R (13 + 6 * k + 2) ≤ 5) ∧ (1 ≤ R (13 + 6 * k + 3) ∧ R (13 + 6 * k + 3) ≤ 200) ∧ (0 ≤ R (13 + 6 * k + 4) ∧ R (13 + 6 * k + 4) ≤ 60000) ∧ 0 ≤ R (13 + 6 * k + 5) ∧ R (13 + 6 * k + 5) ≤ 1 := W.2.2.2.2.2
theorem RHd.mk {R : Int → Int} (m_rw : RW R) (m_d : 0 ≤ R 2 ∧ R 2 ≤ 9) (m_dc : ∀ i, 0 ≤ i → i < R 2 → (0 ≤ R (3 + i) ∧ R (3 + i) < R 0 * R 1) ∧ sBears R (R (3 + i))) (m_dd : ∀ i j, 0 ≤ i → i < j → j < R 2 → R (3 + i) ≠ R (3 + j)) (m_wm : 0 ≤ R 12 ∧ R 12 ≤ 24) (m_ws : ∀ k, 0 ≤ k → k < R 12 → (0 ≤ R (13 + 6 * k) ∧ R (13 + 6 * k) < R 2) ∧ (0 ≤ R (13 + 6 * k + 1) ∧ R (13 + 6 * k + 1) < R 2) ∧ (0 ≤ R (13 + 6 * k + 2) ∧ R (13 + 6 * k + 2) ≤ 5) ∧ (1 ≤ R (13 + 6 * k + 3) ∧ R (13 + 6 * k + 3) ≤ 200) ∧ (0 ≤ R (13 + 6 * k + 4) ∧ R (13 + 6 * k + 4) ≤ 60000) ∧ 0 ≤ R (13 + 6 * k + 5) ∧ R (13 + 6 * k + 5) ≤ 1) : RHd R := ⟨m_rw, m_d, m_dc, m_dd, m_wm, m_ws⟩
def RWk (kx : Int) (R : Int → Int) : Prop := (0 ≤ R 157 ∧ R 157 ≤ 60) ∧ ∀ k, 0 ≤ k → k < R 157 → (0 ≤ R (158 + 6 * k) ∧ R (158 + 6 * k) < R 0 * R 1) ∧ (0 ≤ R (158 + 6 * k + 1) ∧ R (158 + 6 * k + 1) < R 12) ∧ (0 ≤ R (158 + 6 * k + 2) ∧ R (158 + 6 * k + 2) ≤ 200) ∧ (k ≠ kx → R (158 + 6 * k + 2) < 200) ∧ (-1 ≤ R (158 + 6 * k + 3) ∧ R (158 + 6 * k + 3) < 8) ∧ -1 ≤ R (158 + 6 * k + 4) ∧ R (158 + 6 * k + 4) < R 0 * R 1
def RCt (B : Int) (R : Int → Int) : Prop := (0 ≤ R 518 ∧ R 518 ≤ B) ∧ (0 ≤ R 519 ∧ R 519 ≤ B) ∧ (0 ≤ R 520 ∧ R 520 ≤ B) ∧ 0 ≤ R 521 ∧ R 521 ≤ B
def RCl (B : Int) (R : Int → Int) : Prop := ∀ c, 0 ≤ c → c < 256 → (0 ≤ cel R c 0 ∧ cel R c 0 ≤ 6) ∧ (0 ≤ cel R c 1 ∧ cel R c 1 ≤ 1) ∧ (0 ≤ cel R c 2 ∧ cel R c 2 ≤ 15) ∧ (0 ≤ cel R c 3 ∧ cel R c 3 ≤ 999) ∧ (¬ sGreen R c → cel R c 3 = 0) ∧ (0 ≤ cel R c 4 ∧ cel R c 4 ≤ 200) ∧ (0 ≤ cel R c 5 ∧ cel R c 5 ≤ B) ∧ 0 ≤ cel R c 6 ∧ cel R c 6 ≤ B
def RowOK (B kx : Int) (R : Int → Int) : Prop := (RHd R) ∧ (RWk kx R) ∧ (RCt B R) ∧ (RCl B R)
theorem RowOK.hd {B kx : Int} {R : Int → Int} (W : RowOK B kx R) : RHd R := W.1
theorem RowOK.wk {B kx : Int} {R : Int → Int} (W : RowOK B kx R) : RWk kx R := W.2.1
theorem RowOK.ct {B kx : Int} {R : Int → Int} (W : RowOK B kx R) : RCt B R := W.2.2.1
theorem RowOK.cl {B kx : Int} {R : Int → Int} (W : RowOK B kx R) : RCl B R := W.2.2.2
theorem RowOK.mk {B kx : Int} {R : Int → Int} (m_hd : RHd R) (m_wk : RWk kx R) (m_ct : RCt B R) (m_cl : RCl B R) : RowOK B kx R := ⟨m_hd, m_wk, m_ct, m_cl⟩
theorem RHd.congr {R R' : Int → Int} (h : RHd R) (e : ∀ j, 0 ≤ j → j < 157 → R' j = R j) (ek : ∀ c, 0 ≤ c → c < 256 → cel R' c 0 = cel R c 0) : RHd R' := by
  have e0 := e 0 (by decide) (by decide)
  have e1 := e 1 (by decide) (by decide)
  have e2 := e 2 (by decide) (by decide)
  have e12 := e 12 (by decide) (by decide)
  have hc := h.rw.c
  have hd := h.d
  have hm := h.wm
  refine RHd.mk ?_ (by rw [e2]; exact h.d) ?_ ?_ (by rw [e12]; exact h.wm) ?_
  · have := h.rw
    unfold RW at this ⊢
    rw [e0, e1]
    exact this
  · intro i i1 i2
    rw [e2] at i2
    have h9 := h.dc i i1 i2
    rw [e (3 + i) (by omega) (by omega), e0, e1]
    refine ⟨h9.1, ?_⟩
    have := h9.2
    rw [sBears, ek _ h9.1.1 (by omega)]
    exact this
  · intro i j i1 i2 i3
    rw [e2] at i3
    rw [e (3 + i) (by omega) (by omega), e (3 + j) (by omega) (by omega)]
    exact h.dd i j i1 i2 i3
  · intro k k1 k2
    rw [e12] at k2
    rw [e (13 + 6 * k) (by omega) (by omega), e (13 + 6 * k + 1) (by omega) (by omega), e (13 + 6 * k + 2) (by omega) (by omega), e (13 + 6 * k + 3) (by omega) (by omega), e (13 + 6 * k + 4) (by omega) (by omega), e (13 + 6 * k + 5) (by omega) (by omega), e2]
    exact h.ws k k1 k2
theorem RWk.congr {kx : Int} {R R' : Int → Int} (h : RWk kx R) (e : ∀ j, 0 ≤ j → j < 518 → R' j = R j) : RWk kx R' := by
  obtain ⟨h1, h2⟩ := h
  unfold RWk
  rw [e 157 (by decide) (by decide)]
  refine ⟨h1, fun k k1 k2 => ?_⟩
  rw [e (158 + 6 * k) (by omega) (by omega), e (158 + 6 * k + 1) (by omega) (by omega), e (158 + 6 * k + 2) (by omega) (by omega), e (158 + 6 * k + 3) (by omega) (by omega), e (158 + 6 * k + 4) (by omega) (by omega), e 0 (by decide) (by decide), e 1 (by decide) (by decide), e 12 (by decide) (by decide)]
  exact h2 k k1 k2
theorem RowOK.mono {B B' kx : Int} {R : Int → Int} (h : RowOK B kx R) (hB : B ≤ B') : RowOK B' kx R := by
  refine RowOK.mk h.hd h.wk ?_ (fun c c1 c2 => ?_)
  · have := h.ct
    unfold RCt at this ⊢
    omega
  · have := h.cl c c1 c2
    exact ⟨this.1, this.2.1, this.2.2.1, this.2.2.2.1, this.2.2.2.2.1, this.2.2.2.2.2.1, by omega, by omega⟩
/-- the same cells -/
theorem RCl.congr {B : Int} {R R' : Int → Int} (h : RCl B R) (e : ∀ j, 522 ≤ j → R' j = R j) : RCl B R' := by
  intro c c1 c2
  have e9 : ∀ w, 0 ≤ w → cel R' c w = cel R c w := fun w hw => e _ (by omega)
  rw [sGreen, e9 0 (by decide), e9 1 (by decide), e9 2 (by decide), e9 3 (by decide), e9 4 (by decide), e9 5 (by decide), e9 6 (by decide)]
  exact h c c1 c2
theorem sTread_lo {R : Int → Int} {b mu : Int} {tx0 : zTx} {c j : Int} (hc : 0 ≤ c) (hj : j < 522) : sTread R b mu tx0 c j = R j := by
  unfold sTread
  rw [if_neg (by omega), if_neg (by omega), if_neg (by omega)]
theorem sTread_cel {R : Int → Int} {b mu : Int} {tx0 : zTx} {c c' w : Int} (hw : 0 ≤ w ∧ w < 7) : cel (sTread R b mu tx0 c) c' w = if c' = c ∧ w = 3 then zIf (sGreen R c) (if 999 < cel R c 3 + txFirst (sA R b mu c) 0 5 tx0 then 999 else cel R c 3 + txFirst (sA R b mu c) 0 5 tx0) (cel R c 3) else if c' = c ∧ w = 5 then cel R c 5 + 1 else if c' = c ∧ w = 6 then cel R c 6 + 1 else cel R c' w := by
  show sTread R b mu tx0 c (522 + 7 * c' + w) = _
  unfold sTread
  by_cases e3 : c' = c ∧ w = 3
  · rw [if_pos (by omega), if_pos e3]
  rw [if_neg (by omega), if_neg e3]
  by_cases e5 : c' = c ∧ w = 5
  · rw [if_pos (by omega), if_pos e5]
  rw [if_neg (by omega), if_neg e5]
  by_cases e6 : c' = c ∧ w = 6
  · rw [if_pos (by omega), if_pos e6]
  rw [if_neg (by omega), if_neg e6]
  rfl
theorem RowOK.tread {B kx : Int} {R : Int → Int} {b mu : Int} {tx0 : zTx} {c : Int} (h : RowOK B kx R) (hc : 0 ≤ c ∧ c < R 0 * R 1) (hx : ∀ q ∈ tx0, WLn q) : RowOK (B + 1) kx (sTread R b mu tx0 c) := by
  have lo : ∀ j, 0 ≤ j → j < 522 → sTread R b mu tx0 c j = R j := fun j _ h2 => sTread_lo hc.1 h2
  have k0 : ∀ c', cel (sTread R b mu tx0 c) c' 0 = cel R c' 0 := fun c' => by rw [sTread_cel (by decide), if_neg (by omega), if_neg (by omega), if_neg (by omega)]
  have hr := txFirst_r (A := sA R b mu c) (kd := 0) (usual := 5) (by decide) tx0 hx
  refine RowOK.mk (h.hd.congr (fun j h1 h2 => lo j h1 (by omega)) (fun c' _ _ => k0 c')) (h.wk.congr (fun j h1 h2 => lo j h1 (by omega))) ?_ (fun c' c1 c2 => ?_)
  · have := h.ct
    unfold RCt at this ⊢
    rw [lo 518 (by decide) (by decide), lo 519 (by decide) (by decide), lo 520 (by decide) (by decide), lo 521 (by decide) (by decide)]
    omega
  · have h9 := h.cl c' c1 c2
    have f1 : cel (sTread R b mu tx0 c) c' 1 = cel R c' 1 := by rw [sTread_cel (by decide), if_neg (by omega), if_neg (by omega), if_neg (by omega)]
    have f2 : cel (sTread R b mu tx0 c) c' 2 = cel R c' 2 := by rw [sTread_cel (by decide), if_neg (by omega), if_neg (by omega), if_neg (by omega)]
    have f4 : cel (sTread R b mu tx0 c) c' 4 = cel R c' 4 := by rw [sTread_cel (by decide), if_neg (by omega), if_neg (by omega), if_neg (by omega)]
    rw [sGreen, k0, f1, f2, f4]
    by_cases e : c' = c
    · have f3 : cel (sTread R b mu tx0 c) c' 3 = zIf (sGreen R c) (if 999 < cel R c 3 + txFirst (sA R b mu c) 0 5 tx0 then 999 else cel R c 3 + txFirst (sA R b mu c) 0 5 tx0) (cel R c 3) := by rw [sTread_cel (by decide), if_pos ⟨e, rfl⟩]
      have f5 : cel (sTread R b mu tx0 c) c' 5 = cel R c 5 + 1 := by rw [sTread_cel (by decide), if_neg (by omega), if_pos ⟨e, rfl⟩]
      have f6 : cel (sTread R b mu tx0 c) c' 6 = cel R c 6 + 1 := by rw [sTread_cel (by decide), if_neg (by omega), if_neg (by omega), if_pos ⟨e, rfl⟩]
      rw [f3, f5, f6]
      subst e
      by_cases g : sGreen R c'
      · rw [zIf_t g]
        refine ⟨h9.1, h9.2.1, h9.2.2.1, ?_, fun z => absurd g z, h9.2.2.2.2.2.1, by omega, by omega⟩
        split <;> omega
      · rw [zIf_f g]
        exact ⟨h9.1, h9.2.1, h9.2.2.1, h9.2.2.2.1, fun _ => h9.2.2.2.2.1 g, h9.2.2.2.2.2.1, by omega, by omega⟩
    · have f3 : cel (sTread R b mu tx0 c) c' 3 = cel R c' 3 := by rw [sTread_cel (by decide), if_neg (fun z => e z.1), if_neg (fun z => e z.1), if_neg (fun z => e z.1)]
      have f5 : cel (sTread R b mu tx0 c) c' 5 = cel R c' 5 := by rw [sTread_cel (by decide), if_neg (fun z => e z.1), if_neg (fun z => e z.1), if_neg (fun z => e z.1)]
      have f6 : cel (sTread R b mu tx0 c) c' 6 = cel R c' 6 := by rw [sTread_cel (by decide), if_neg (fun z => e z.1), if_neg (fun z => e z.1), if_neg (fun z => e z.1)]
      rw [f3, f5, f6]
      exact ⟨h9.1, h9.2.1, h9.2.2.1, h9.2.2.2.1, h9.2.2.2.2.1, h9.2.2.2.2.2.1, by omega, by omega⟩
/-- a change among the walkers and counters alone -/
theorem RowOK.low {B B' kx kx' : Int} {R R' : Int → Int} (h : RowOK B kx R) (e1 : ∀ j, 0 ≤ j → j < 157 → R' j = R j) (e2 : ∀ j, 522 ≤ j → R' j = R j) (hw : RWk kx' R') (hc : RCt B' R') (hB : B ≤ B') : RowOK B' kx' R' :=
  RowOK.mk (h.hd.congr e1 (fun c c1 _ => e2 _ (by omega))) hw hc ((h.mono hB).cl.congr e2)
theorem RowOK.here {B kx : Int} {R : Int → Int} (h : RowOK B kx R) {k : Int} (k1 : 0 ≤ k) (k2 : k < R 157) : (0 ≤ sGoalOf R (158 + 6 * k) ∧ sGoalOf R (158 + 6 * k) < R 0 * R 1) ∧ 0 ≤ R (13 + 6 * R (158 + 6 * k + 1) + 2) ∧ R (13 + 6 * R (158 + 6 * k + 1) + 2) ≤ 5 := by
  have h1 := (h.wk.2 k k1 k2).2.1
  have h2 := h.hd.ws _ h1.1 h1.2
  have h3 := h.hd.dc _ h2.2.1.1 h2.2.1.2
  exact ⟨h3.1, h2.2.2.1⟩
theorem upR_lo {R : Int → Int} {k v : Int} : ∀ j, j ≠ k → upR R k v j = R j := fun _ h => upR_n R v h
theorem sWay_r {B kx : Int} {R : Int → Int} (h : RowOK B kx R) (b mu : Int) (hs : Int → zTx) {k : Int} (k1 : 0 ≤ k) (k2 : k < R 157) : sWay R b mu hs (158 + 6 * k) = -1 ∨ ((0 ≤ sWay R b mu hs (158 + 6 * k) ∧ sWay R b mu hs (158 + 6 * k) < 8) ∧ 0 ≤ sBeside R (R (158 + 6 * k)) (sWay R b mu hs (158 + 6 * k)) ∧ sBeside R (R (158 + 6 * k)) (sWay R b mu hs (158 + 6 * k)) < R 0 * R 1) := by
  have h1 := h.here k1 k2
  unfold sWay
  try dsimp only
  rcases sChoose_r R b mu (hs (R (13 + 6 * R (158 + 6 * k + 1) + 2))) (R (158 + 6 * k)) (R (3 + R (13 + 6 * R (158 + 6 * k + 1) + 1))) (R (158 + 6 * k + 3)) (R (158 + 6 * k + 4)) (sCrowd R) h1.1.1 with h9 | h9
  · exact Or.inl h9
  · refine Or.inr ⟨h9.1, h9.2, ?_⟩
    rcases sBeside_r h.hd.rw (c := R (158 + 6 * k)) (d := sChoose R b mu (hs (R (13 + 6 * R (158 + 6 * k + 1) + 2))) (R (158 + 6 * k)) (R (3 + R (13 + 6 * R (158 + 6 * k + 1) + 1))) (R (158 + 6 * k + 3)) (R (158 + 6 * k + 4)) (sCrowd R)) with h8 | h8
    · omega
    · exact h8.2
theorem RowOK.step {B : Int} {R : Int → Int} (h : RowOK B (-1) R) {b mu : Int} {tx0 : zTx} {hs : Int → zTx} {k : Int} (k1 : 0 ≤ k) (k2 : k < R 157) (hx : ∀ q ∈ tx0, WLn q) : RowOK (B + 1) k (sStep R b mu tx0 hs (158 + 6 * k)) := by
  have hm := h.wk.1
  have h9 := h.wk.2 k k1 k2
  have hB : RCt B R := h.ct
  have hR1 : RowOK B k (upR R (158 + 6 * k + 2) (R (158 + 6 * k + 2) + 1)) := by
    refine h.low (fun j _ _ => upR_n _ _ (by omega)) (fun j _ => upR_n _ _ (by omega)) ?_ ?_ (Int.le_refl B)
    · unfold RWk
      rw [upR_n R (j := 157) _ (by omega), upR_n R (j := 0) _ (by omega), upR_n R (j := 1) _ (by omega), upR_n R (j := 12) _ (by omega)]
      refine ⟨hm, fun i i1 i2 => ?_⟩
      have hi := h.wk.2 i i1 i2
      rw [upR_n R (j := 158 + 6 * i) _ (by omega), upR_n R (j := 158 + 6 * i + 1) _ (by omega), upR_n R (j := 158 + 6 * i + 3) _ (by omega), upR_n R (j := 158 + 6 * i + 4) _ (by omega)]
      by_cases e : i = k
      · rw [e, upR_s]
        rw [e] at hi
        refine ⟨hi.1, hi.2.1, ?_, fun z => absurd rfl z, hi.2.2.2.2⟩
        have := hi.2.2.2.1 (by omega)
        omega
      · rw [upR_n R (j := 158 + 6 * i + 2) _ (by omega)]
        exact ⟨hi.1, hi.2.1, hi.2.2.1, fun _ => hi.2.2.2.1 (by omega), hi.2.2.2.2⟩
    · unfold RCt
      rw [upR_n R (j := 518) _ (by omega), upR_n R (j := 519) _ (by omega), upR_n R (j := 520) _ (by omega), upR_n R (j := 521) _ (by omega)]
      exact hB
  have hd9 := sWay_r h b mu hs k1 k2
  unfold sStep
  try dsimp only
  split
  · rename_i c
    have hd8 := hd9.resolve_left (by omega)
    generalize hR2 : upR R (158 + 6 * k + 2) (R (158 + 6 * k + 2) + 1) = R2 at hR1
    have g : ∀ j, j ≠ 158 + 6 * k + 2 → R2 j = R j := fun j hj => by rw [← hR2]; exact upR_n _ _ hj
    have hR3 : RowOK B k (upR (upR (upR R2 (158 + 6 * k + 3) (sWay R b mu hs (158 + 6 * k))) (158 + 6 * k + 4) (R (158 + 6 * k))) (158 + 6 * k) (sBeside R (R (158 + 6 * k)) (sWay R b mu hs (158 + 6 * k)))) := by
      refine hR1.low (fun j _ _ => ?_) (fun j _ => ?_) ?_ ?_ (Int.le_refl B)
      · rw [upR_n _ _ (by omega), upR_n _ _ (by omega), upR_n _ _ (by omega)]
      · rw [upR_n _ _ (by omega), upR_n _ _ (by omega), upR_n _ _ (by omega)]
      · have q9 := hR1.wk
        unfold RWk at q9 ⊢
        have g0 : ∀ j, j < 158 → upR (upR (upR R2 (158 + 6 * k + 3) (sWay R b mu hs (158 + 6 * k))) (158 + 6 * k + 4) (R (158 + 6 * k))) (158 + 6 * k) (sBeside R (R (158 + 6 * k)) (sWay R b mu hs (158 + 6 * k))) j = R2 j := fun j hj => by rw [upR_n _ _ (by omega), upR_n _ _ (by omega), upR_n _ _ (by omega)]
        rw [g0 157 (by decide), g0 0 (by decide), g0 1 (by decide), g0 12 (by decide)]
        refine ⟨q9.1, fun i i1 i2 => ?_⟩
        have hi := q9.2 i i1 i2
        by_cases e : i = k
        · subst e
          rw [upR_s, upR_n _ _ (by omega), upR_n _ _ (by omega), upR_n _ _ (by omega), upR_n _ _ (by omega), upR_n _ _ (by omega), upR_n _ _ (by omega), upR_n _ _ (by omega), upR_n _ _ (by omega), upR_s, upR_n _ _ (by omega), upR_s]
          rw [g 0 (by omega), g 1 (by omega)] at hi ⊢
          exact ⟨by omega, hi.2.1, hi.2.2.1, hi.2.2.2.1, hd8.1.imp (fun z => by omega) id, by omega, by omega⟩
        · rw [upR_n _ _ (by omega), upR_n _ _ (by omega), upR_n _ _ (by omega), upR_n _ _ (by omega), upR_n _ _ (by omega), upR_n _ _ (by omega), upR_n _ _ (by omega), upR_n _ _ (by omega), upR_n _ _ (by omega), upR_n _ _ (by omega), upR_n _ _ (by omega), upR_n _ _ (by omega), upR_n _ _ (by omega), upR_n _ _ (by omega), upR_n _ _ (by omega)]
          exact hi
      · have q9 := hR1.ct
        unfold RCt at q9 ⊢
        have g0 : ∀ j, 518 ≤ j → upR (upR (upR R2 (158 + 6 * k + 3) (sWay R b mu hs (158 + 6 * k))) (158 + 6 * k + 4) (R (158 + 6 * k))) (158 + 6 * k) (sBeside R (R (158 + 6 * k)) (sWay R b mu hs (158 + 6 * k))) j = R2 j := fun j hj => by rw [upR_n _ _ (by omega), upR_n _ _ (by omega), upR_n _ _ (by omega)]
        rw [g0 518 (by decide), g0 519 (by decide), g0 520 (by decide), g0 521 (by decide)]
        exact q9
    refine hR3.tread ?_ hx
    rw [upR_n _ _ (by omega), upR_n _ _ (by omega), upR_n _ _ (by omega), g 0 (by omega), upR_n _ _ (by omega), upR_n _ _ (by omega), upR_n _ _ (by omega), g 1 (by omega)]
    exact hd8.2
  · exact hR1.mono (by omega)
theorem RowOK.goes {B : Int} {R : Int → Int} (h : RowOK B (-1) R) {b mu : Int} {tx0 : zTx} {hs : Int → zTx} {k : Int} (k1 : 0 ≤ k) (k2 : k < R 157) (hx : ∀ q ∈ tx0, WLn q) : RowOK (B + 1) k (sGoes R b mu tx0 hs (158 + 6 * k)).1 ∧ ((sGoes R b mu tx0 hs (158 + 6 * k)).2 → RowOK (B + 1) (-1) (sGoes R b mu tx0 hs (158 + 6 * k)).1) := by
  have h2 := h.step (b := b) (mu := mu) (hs := hs) k1 k2 hx
  have up : ∀ (R2 : Int → Int) (j9 : Int), 519 ≤ j9 → j9 ≤ 520 → RowOK (B + 1) k R2 → R2 j9 ≤ B → RowOK (B + 1) k (upR R2 j9 (R2 j9 + 1)) := by
    intro R2 j9 a1 a2 a3 a4
    refine a3.low (fun j _ _ => upR_n _ _ (by omega)) (fun j _ => upR_n _ _ (by omega)) (a3.wk.congr fun j _ _ => upR_n _ _ (by omega)) ?_ (Int.le_refl _)
    have := a3.ct
    unfold RCt at this ⊢
    rcases (show j9 = 519 ∨ j9 = 520 by omega) with rfl | rfl
    · rw [upR_s, upR_n _ _ (by decide), upR_n _ _ (by decide), upR_n _ _ (by decide)]; omega
    · rw [upR_s, upR_n _ _ (by decide), upR_n _ _ (by decide), upR_n _ _ (by decide)]; omega
  have lo : ∀ j, 518 ≤ j → j < 522 → sStep R b mu tx0 hs (158 + 6 * k) j = R j := by
    intro j j1 j2
    have hm := h.wk.1
    unfold sStep
    try dsimp only
    split
    · rename_i c
      have hd8 := (sWay_r h b mu hs k1 k2).resolve_left (by omega)
      rw [sTread_lo hd8.2.1 j2, upR_n _ _ (by omega), upR_n _ _ (by omega), upR_n _ _ (by omega), upR_n _ _ (by omega)]
    · exact upR_n _ _ (by omega)
  have hct := h.ct
  unfold RCt at hct
  unfold sGoes
  try dsimp only
  generalize sStep R b mu tx0 hs (158 + 6 * k) = R2 at h2 lo
  refine ⟨?_, fun z => ?_⟩
  · split
    · exact up R2 519 (by decide) (by decide) h2 (by rw [lo 519 (by decide) (by decide)]; exact hct.2.1.2)
    · split
      · exact h2
      · exact up R2 520 (by decide) (by decide) h2 (by rw [lo 520 (by decide) (by decide)]; exact hct.2.2.1.2)
  · rw [if_neg z.1, if_pos z.2]
    refine RowOK.mk h2.hd ⟨h2.wk.1, fun i i1 i2 => ?_⟩ h2.ct h2.cl
    have hi := h2.wk.2 i i1 i2
    refine ⟨hi.1, hi.2.1, hi.2.2.1, fun _ => ?_, hi.2.2.2.2⟩
    by_cases e : i = k
    · rw [e]; exact z.2
    · exact hi.2.2.2.1 e
theorem RowOK.leave {B k : Int} {R : Int → Int} (h : RowOK B k R) (k1 : 0 ≤ k) (k2 : k < R 157) : RowOK B (-1) (sLeave R k) := by
  have hm := h.wk.1
  have lo : ∀ j, j < 157 ∨ 518 ≤ j → sLeave R k j = R j := fun j hj => by unfold sLeave; rw [if_neg (by omega), if_neg (by omega), if_neg (by omega)]
  refine h.low (fun j _ _ => lo j (by omega)) (fun j _ => lo j (by omega)) ?_ ?_ (Int.le_refl B)
  · have e7 : sLeave R k 157 = R 157 - 1 := rfl
    unfold RWk
    rw [e7, lo 0 (by decide), lo 1 (by decide), lo 12 (by decide)]
    refine ⟨by omega, fun i i1 i2 => ?_⟩
    by_cases e : i < k
    · have g : ∀ j, 158 + 6 * i ≤ j → j < 158 + 6 * i + 5 → sLeave R k j = R j := fun j j1 j2 => by unfold sLeave; rw [if_neg (by omega), if_neg (by omega), if_neg (by omega)]
      rw [g _ (by omega) (by omega), g _ (by omega) (by omega), g _ (by omega) (by omega), g _ (by omega) (by omega), g _ (by omega) (by omega)]
      have hi := h.wk.2 i i1 (by omega)
      exact ⟨hi.1, hi.2.1, hi.2.2.1, fun _ => hi.2.2.2.1 (by omega), hi.2.2.2.2⟩
    · have g : ∀ w, 0 ≤ w → w < 5 → sLeave R k (158 + 6 * i + w) = R (158 + 6 * (i + 1) + w) := fun w w1 w2 => by
        unfold sLeave
        rw [if_neg (by omega), if_pos (by omega)]
        congr 1
        omega
      have g0 := g 0 (by decide) (by decide)
      rw [Int.add_zero, Int.add_zero] at g0
      rw [g0, g 1 (by decide) (by decide), g 2 (by decide) (by decide), g 3 (by decide) (by decide), g 4 (by decide) (by decide)]
      have hi := h.wk.2 (i + 1) (by omega) (by omega)
      exact ⟨hi.1, hi.2.1, hi.2.2.1, fun _ => hi.2.2.2.1 (by omega), hi.2.2.2.2⟩
  · have := h.ct
    unfold RCt at this ⊢
    rw [lo 518 (by decide), lo 519 (by decide), lo 520 (by decide), lo 521 (by decide)]
    exact this
theorem RowOK.spawn1 {B : Int} {R : Int → Int} (h : RowOK B (-1) R) {k : Int} (k1 : 0 ≤ k) (k2 : k < R 12) : RowOK (B + 1) (-1) (sSpawn1 R k) ∧ (∀ j, j < 157 → sSpawn1 R k j = R j) ∧ sSpawn1 R k 518 = R 518 ∧ (∀ j, 522 ≤ j → sSpawn1 R k j = R j) ∧ sSpawn1 R k 519 = R 519 := by
  have hm := h.wk.1
  have hct := h.ct
  unfold RCt at hct
  unfold sSpawn1
  by_cases c : sDue R k
  · rw [zIf_t c]
    split
    · rename_i c6
      refine ⟨?_, fun j hj => upR_n _ _ (by omega), upR_n _ _ (by omega), fun j hj => upR_n _ _ (by omega), upR_n _ _ (by omega)⟩
      refine h.low (fun j _ _ => upR_n _ _ (by omega)) (fun j _ => upR_n _ _ (by omega)) (h.wk.congr fun j _ _ => upR_n _ _ (by omega)) ?_ (by omega)
      unfold RCt
      rw [upR_s, upR_n _ _ (by decide), upR_n _ _ (by decide), upR_n _ _ (by decide)]
      omega
    · rename_i c6
      have lo : ∀ j, j < 157 ∨ 518 ≤ j → sNew R k j = R j := fun j hj => by
        unfold sNew
        rw [if_neg (by omega), if_neg (by omega), if_neg (by omega), if_neg (by omega), if_neg (by omega), if_neg (by omega)]
      refine ⟨?_, fun j hj => lo j (Or.inl hj), lo 518 (by decide), fun j hj => lo j (by omega), lo 519 (by decide)⟩
      refine (h.mono (show B ≤ B + 1 by omega)).low (fun j _ _ => lo j (by omega)) (fun j _ => lo j (by omega)) ?_ ?_ (Int.le_refl _)
      · unfold RWk
        have e7 : sNew R k 157 = R 157 + 1 := rfl
        rw [e7, lo 0 (by decide), lo 1 (by decide), lo 12 (by decide)]
        refine ⟨by omega, fun i i1 i2 => ?_⟩
        by_cases e : i = R 157
        · have hws := h.hd.ws k k1 k2
          have hdc := h.hd.dc _ hws.1.1 hws.1.2
          have g0 : sNew R k (158 + 6 * i) = R (3 + R (13 + 6 * k)) := by unfold sNew; rw [if_neg (by omega), if_pos (by omega)]
          have g1 : sNew R k (158 + 6 * i + 1) = k := by unfold sNew; rw [if_neg (by omega), if_neg (by omega), if_pos (by omega)]
          have g2 : sNew R k (158 + 6 * i + 2) = 0 := by unfold sNew; rw [if_neg (by omega), if_neg (by omega), if_neg (by omega), if_pos (by omega)]
          have g3 : sNew R k (158 + 6 * i + 3) = -1 := by unfold sNew; rw [if_neg (by omega), if_neg (by omega), if_neg (by omega), if_neg (by omega), if_pos (by omega)]
          have g4 : sNew R k (158 + 6 * i + 4) = -1 := by unfold sNew; rw [if_neg (by omega), if_neg (by omega), if_neg (by omega), if_neg (by omega), if_neg (by omega), if_pos (by omega)]
          have hrc := h.hd.rw.c
          rw [g0, g1, g2, g3, g4]
          exact ⟨hdc.1, by omega, by omega, fun _ => by omega, by omega, by omega⟩
        · have g : ∀ j, 158 + 6 * i ≤ j → j < 158 + 6 * i + 5 → sNew R k j = R j := fun j j1 j2 => by
            unfold sNew
            rw [if_neg (by omega), if_neg (by omega), if_neg (by omega), if_neg (by omega), if_neg (by omega), if_neg (by omega)]
          rw [g _ (by omega) (by omega), g _ (by omega) (by omega), g _ (by omega) (by omega), g _ (by omega) (by omega), g _ (by omega) (by omega)]
          exact h.wk.2 i i1 (by omega)
      · unfold RCt
        rw [lo 518 (by decide), lo 519 (by decide), lo 520 (by decide), lo 521 (by decide)]
        omega
  · rw [zIf_f c]
    exact ⟨h.mono (by omega), fun _ _ => rfl, rfl, fun _ _ => rfl, rfl⟩
