/-! THE TWIN, V: the least net -/
set_option maxRecDepth 100000
/-- none is -1 -/
def oMin (v s : Int) : Int := if s < 0 then v else if v < 0 then s else if s < v then s else v
def oSum (x y p : Int) : Int := if x < 0 ∨ y < 0 then -1 else x + y - p
def oFar (v : Int) : Int := if v < 0 then 10000000 else v
def sPartF (C : Nat → Int → Int) (set : Nat) (c p : Int) : Nat → Nat → Int → Int
  | 0, _, v => v
  | f + 1, part, v => if part = 0 then v else sPartF C set c p f ((part - 1) &&& set) (oMin v (oSum (C part c) (C (set - (set &&& part)) c) p))
noncomputable def sBase1 (R o : Int → Int) (N : Int) (set : Nat) (c : Int) : Int := zIf (∃ i : Nat, (i : Int) < N ∧ set = 2 ^ i ∧ R (3 + o i) = c) (sPrice R c) (-1)
noncomputable def sBase (R o : Int → Int) (N : Int) (C : Nat → Int → Int) (set : Nat) (c : Int) : Int := sPartF C set c (sPrice R c) 64 ((set - 1) &&& set) (sBase1 R o N set c)
def sBeg (R : Int → Int) (b : Int → Int) (c v : Int) : Prop := (0 ≤ c ∧ c < R 0 * R 1) ∧ sBears R c ∧ 0 ≤ v ∧ v = b c
noncomputable def sTab (R o : Int → Int) (N : Int) : Nat → Nat → Int → Int
  | 0 => fun _ _ => -1
  | k + 1 => fun t c => if t = k + 1 then sDst R (fun c => sBears R c) (kPri R) (sBeg R (sBase R o N (sTab R o N k) (k + 1))) c else sTab R o N k t c
def sMinC (C : Int → Int) : Nat → Int
  | 0 => -1
  | n + 1 => oMin (sMinC C n) (C n)
noncomputable def sLeast (R o : Int → Int) (N : Int) : Int := sMinC (sTab R o N (2 ^ N.toNat - 1) (2 ^ N.toNat - 1)) (R 0 * R 1).toNat
abbrev okLeast (R o : Int → Int) (N : Int) : Prop := (2 ≤ N ∧ N ≤ 6) ∧ ∀ i, 0 ≤ i → i < N → sIsDoor R (o i) ∧ ∀ j, 0 ≤ j → j < i → o j ≠ o i
/-- the table up to set k is within its bounds -/
def TabOK (R : Int → Int) (k : Nat) (C : Nat → Int → Int) : Prop := ∀ (t : Nat) (c : Int), 1 ≤ t → t ≤ k → (0 ≤ c ∧ c < R 0 * R 1) → C t c = -1 ∨ (sBears R c ∧ sPrice R c ≤ C t c ∧ C t c ≤ 10800 * (t : Int) - 5400)
theorem and_sub {set part : Nat} (h : part &&& set = part) : set - (set &&& part) = set - part ∧ part ≤ set := by
  rw [Nat.and_comm] at h
  exact ⟨by rw [h], by rw [← h]; exact Nat.and_le_left⟩
theorem oMin_r {v s lo hi : Int} (hv : v = -1 ∨ lo ≤ v ∧ v ≤ hi) (hs : s = -1 ∨ lo ≤ s ∧ s ≤ hi) (h0 : 0 ≤ lo) : oMin v s = -1 ∨ lo ≤ oMin v s ∧ oMin v s ≤ hi := by
  unfold oMin
  split
  · exact hv
  split
  · exact hs
  split
  · exact hs
  · exact hv
theorem oSum_r {R : Int → Int} {k : Nat} {C : Nat → Int → Int} (hT : TabOK R k C) {set part : Nat} {c : Int} (hc : 0 ≤ c ∧ c < R 0 * R 1) (hp : part &&& set = part) (h1 : 1 ≤ part) (h2 : part < set) (h3 : set ≤ k + 1) : oSum (C part c) (C (set - (set &&& part)) c) (sPrice R c) = -1 ∨ sPrice R c ≤ oSum (C part c) (C (set - (set &&& part)) c) (sPrice R c) ∧ oSum (C part c) (C (set - (set &&& part)) c) (sPrice R c) ≤ 10800 * (set : Int) - 10776 := by
  obtain ⟨e1, e2⟩ := and_sub hp
  rw [e1]
  have q1 := hT part c h1 (by omega) hc
  have q2 := hT (set - part) c (by omega) (by omega) hc
  have hpr := sPrice_r R c
  unfold oSum
  split
  · exact Or.inl rfl
  · rename_i z
    have q1 := q1.resolve_left (by omega)
    have q2 := q2.resolve_left (by omega)
    exact Or.inr ⟨by omega, by omega⟩
theorem sPartF_r {R : Int → Int} {k : Nat} {C : Nat → Int → Int} (hT : TabOK R k C) {set : Nat} {c : Int} (hc : 0 ≤ c ∧ c < R 0 * R 1) (h3 : set ≤ k + 1) : ∀ (f part : Nat) (v : Int), part &&& set = part → part < set → (v = -1 ∨ sPrice R c ≤ v ∧ v ≤ 10800 * (set : Int) - 10776) → (sPartF C set c (sPrice R c) f part v = -1 ∨ sPrice R c ≤ sPartF C set c (sPrice R c) f part v ∧ sPartF C set c (sPrice R c) f part v ≤ 10800 * (set : Int) - 10776)
  | 0, _, _, _, _, hv => hv
  | f + 1, part, v, hp, h2, hv => by
    unfold sPartF
    split
    · exact hv
    · rename_i z
      have hpr := sPrice_r R c
      refine sPartF_r hT hc h3 f _ _ ?_ ?_ (oMin_r hv (oSum_r hT hc hp (by omega) h2 h3) (by omega))
      · rw [Nat.and_assoc, Nat.and_self]
      · have := Nat.and_le_left (n := part - 1) (m := set); omega
theorem sBase_r {R o : Int → Int} {N : Int} {k : Nat} {C : Nat → Int → Int} (hT : TabOK R k C) {c : Int} (hc : 0 ≤ c ∧ c < R 0 * R 1) : sBase R o N C (k + 1) c = -1 ∨ sPrice R c ≤ sBase R o N C (k + 1) c ∧ sBase R o N C (k + 1) c ≤ 10800 * ((k + 1 : Nat) : Int) - 10776 := by
  have hpr := sPrice_r R c
  unfold sBase
  refine sPartF_r hT hc (Nat.le_refl _) 64 _ _ (by rw [Nat.and_assoc, Nat.and_self]) (by have := Nat.and_le_left (n := k + 1 - 1) (m := k + 1); omega) ?_
  unfold sBase1
  by_cases e : ∃ i : Nat, (i : Int) < N ∧ k + 1 = 2 ^ i ∧ R (3 + o i) = c
  · rw [zIf_t e]; exact Or.inr ⟨Int.le_refl _, by omega⟩
  · rw [zIf_f e]; exact Or.inl rfl
/-- where a base holds a number, the cell bears -/
theorem sPartF_b {R : Int → Int} {k : Nat} {C : Nat → Int → Int} (hT : TabOK R k C) {set : Nat} {c : Int} (hc : 0 ≤ c ∧ c < R 0 * R 1) (h3 : set ≤ k + 1) : ∀ (f part : Nat) (v : Int), part &&& set = part → part < set → (0 ≤ v → sBears R c) → 0 ≤ sPartF C set c (sPrice R c) f part v → sBears R c
  | 0, _, _, _, _, hv, h => hv h
  | f + 1, part, v, hp, h2, hv, h => by
    unfold sPartF at h
    split at h
    · exact hv h
    · rename_i z
      refine sPartF_b hT hc h3 f _ _ ?_ ?_ (fun q => ?_) h
      · rw [Nat.and_assoc, Nat.and_self]
      · have := Nat.and_le_left (n := part - 1) (m := set); omega
      · have q1 := hT part c (by omega) (by omega) hc
        unfold oMin oSum at q
        by_cases e : C part c < 0
        · rw [if_pos (Or.inl e)] at q
          rw [if_pos (by decide)] at q
          exact hv q
        · exact (q1.resolve_left (by omega)).1
theorem sBase_b {R o : Int → Int} {N : Int} {k : Nat} {C : Nat → Int → Int} (hT : TabOK R k C) (hd : ∀ i : Nat, (i : Int) < N → sBears R (R (3 + o i))) {c : Int} (hc : 0 ≤ c ∧ c < R 0 * R 1) (h : 0 ≤ sBase R o N C (k + 1) c) : sBears R c := by
  unfold sBase at h
  refine sPartF_b hT hc (Nat.le_refl _) 64 _ _ (by rw [Nat.and_assoc, Nat.and_self]) (by have := Nat.and_le_left (n := k + 1 - 1) (m := k + 1); omega) (fun q => ?_) h
  unfold sBase1 at q
  by_cases e : ∃ i : Nat, (i : Int) < N ∧ k + 1 = 2 ^ i ∧ R (3 + o i) = c
  · obtain ⟨i, i1, i2, i3⟩ := e
    rw [← i3]; exact hd i i1
  · rw [zIf_f e] at q; exact absurd q (by decide)
theorem sVal_ge {R : Int → Int} {ok : Int → Prop} {B : Int → Int → Prop} (hB : ∀ c v, B c v → sPrice R c ≤ v) {c v : Int} (h : sVal R ok (kPri R) B c v) : sPrice R c ≤ v := by
  obtain ⟨n, h⟩ := h
  induction n generalizing c v with
  | zero => exact hB c v h
  | succ n ih =>
    rcases h with h | ⟨_, _, d, v', _, _, h5, h6⟩
    · exact ih h
    · have q1 := ih h5
      have q2 := sPrice_r R (sBeside R c d)
      have q3 : kPri R c d = sPrice R c := rfl
      omega
theorem sTab_old {R o : Int → Int} {N : Int} {k t : Nat} {c : Int} (h : t ≤ k) : sTab R o N (k + 1) t c = sTab R o N k t c := by
  show (if t = k + 1 then _ else sTab R o N k t c) = _
  rw [if_neg (by omega)]
theorem sTab_new {R o : Int → Int} {N : Int} {k : Nat} {c : Int} : sTab R o N (k + 1) (k + 1) c = sDst R (fun c => sBears R c) (kPri R) (sBeg R (sBase R o N (sTab R o N k) (k + 1))) c := by
  show (if k + 1 = k + 1 then _ else sTab R o N k (k + 1) c) = _
  rw [if_pos rfl]
theorem oFar_n : oFar (-1) = 10000000 := rfl
theorem oFar_p {v : Int} (h : 0 ≤ v) : oFar v = v := if_neg (by omega)
theorem oMin_n (v : Int) : oMin v (-1) = v := rfl
theorem oMin_m {s : Int} (h : 0 ≤ s) : oMin (-1) s = s := by
  unfold oMin
  rw [if_neg (by omega), if_pos (by decide)]
theorem oMin_p {v s : Int} (hv : 0 ≤ v) (h : 0 ≤ s) : oMin v s = if s < v then s else v := by
  unfold oMin
  rw [if_neg (by omega), if_neg (by omega)]
/-- the lesser of two, 10000000 being none -/
theorem oFar_mn {v s : Int} (hv : v = -1 ∨ 0 ≤ v ∧ v ≤ 1000000) (hs : s = -1 ∨ 0 ≤ s ∧ s ≤ 1000000) : (oFar s < oFar v → oFar s = oFar (oMin v s)) ∧ (¬ oFar s < oFar v → oFar v = oFar (oMin v s)) := by
  rcases hs with rfl | hs
  · rw [oMin_n, oFar_n]
    rcases hv with rfl | hv
    · rw [oFar_n]; exact ⟨fun h => rfl, fun _ => rfl⟩
    · rw [oFar_p hv.1]; exact ⟨fun h => by omega, fun _ => rfl⟩
  · rcases hv with rfl | hv
    · rw [oMin_m hs.1, oFar_p hs.1, oFar_n]; exact ⟨fun _ => rfl, fun h => by omega⟩
    · rw [oMin_p hv.1 hs.1, oFar_p hs.1, oFar_p hv.1]
      refine ⟨fun h => ?_, fun h => ?_⟩
      · rw [if_pos h, oFar_p hs.1]
      · rw [if_neg h, oFar_p hv.1]
theorem oFar_min {x y v p : Int} (hx : x = -1 ∨ p ≤ x) (hy : y = -1 ∨ p ≤ y) (hxy : x + y ≤ 1000000) (hv : v = -1 ∨ 0 ≤ v ∧ v ≤ 1000000) (hp : 1 ≤ p ∧ p ≤ 21) : (oFar x + oFar y - p < oFar v → oFar x + oFar y - p = oFar (oMin v (oSum x y p))) ∧ (¬ oFar x + oFar y - p < oFar v → oFar v = oFar (oMin v (oSum x y p))) := by
  have hv9 : oFar v ≤ 10000000 := by
    rcases hv with rfl | hv
    · exact Int.le_refl _
    · rw [oFar_p hv.1]; omega
  rcases hx with rfl | hx
  · have e : oSum (-1) y p = -1 := if_pos (Or.inl (by decide))
    have hy9 : p ≤ oFar y := by
      rcases hy with rfl | hy
      · rw [oFar_n]; omega
      · rw [oFar_p (by omega)]; exact hy
    rw [e, oMin_n, oFar_n]
    exact ⟨fun h => by omega, fun _ => rfl⟩
  rcases hy with rfl | hy
  · have e : oSum x (-1) p = -1 := if_pos (Or.inr (by decide))
    rw [e, oMin_n, oFar_n, oFar_p (show 0 ≤ x by omega)]
    exact ⟨fun h => by omega, fun _ => rfl⟩
  have e : oSum x y p = x + y - p := if_neg (by omega)
  have h9 := oFar_mn hv (s := x + y - p) (Or.inr ⟨by omega, by omega⟩)
  rw [e, oFar_p (show 0 ≤ x by omega), oFar_p (show 0 ≤ y by omega)]
  rw [oFar_p (show 0 ≤ x + y - p by omega)] at h9
  exact h9
theorem con_X5_least (l : Launch) {h h1 : zH} (e1 : h1 = setI h (1, 0) 0 0) (hT1 : TwT h1) {R o : Int → Int} {N : Int} (hR : gI h1 (1, 5) = R) (hok : RHd R) (hO : ∀ k, gI h1 (1, 1) k % 256 = o k) (hN : gI h1 (1, 0) 2 = N) (hsz : 0 ≤ N ∧ N ≤ 440) : Con l mX5_least 5 0 0 [zR (some (1, 0))] h (rI fun x h' => (okLeast R o N → x = sLeast R o N ∧ Same cX (setI h1 (1, 0) 2 0) h') ∧ (¬ okLeast R o N → x = -2 ∧ Same cX (setI h1 (1, 0) 2 0) h')) zNo := by
  refine Con.ofS (by decide +kernel) (Nat.le_of_ble_eq_true rfl) fun Γ hΓ hno hwf hav => ?_
  have hΓ : Ctx Γ l cX5_least RX5 "least" 8 (Option.some Jvm.ClassFile.FieldType.int) _ _ 5 _ _ := hΓ
  show SS Γ 0 [some (zR _), none, none, none, none, none, none, none] [] _ 0 0
  have hTw := hT1.thr e1
  have hw := hok.rw
  have hcs := hw.c
  have hd9 := hok.d
  obtain ⟨hA, hAe⟩ : ∃ hA, hA = setI (setI (setI h1 (1, 0) 3 N) (1, 0) 2 0) (1, 0) 4 0 := ⟨_, rfl⟩
  have sA : Same (fun a j => a = (1, 0) ∧ 2 ≤ j ∧ j ≤ 4) h1 hA := by rw [hAe]; exact (((Same.rf _ _).set ⟨rfl, by decide⟩).set ⟨rfl, by decide⟩).set ⟨rfl, by decide⟩
  have sA2 : Same cX (setI h1 (1, 0) 2 0) hA := by rw [hAe]; exact taken_same h1 N
  have a3 : gI hA (1, 0) 3 = N := by rw [hAe, gI_setI, if_neg (by decide), gI_setI, if_neg (by decide), gI_setI, if_pos ⟨rfl, rfl⟩]
  have aO : ∀ k, gI hA (1, 1) k % 256 = o k := fun k => by rw [sA.2.2 _ _ (fun z => n1 (by decide) z.1)]; exact hO k
  have aR : gI hA (1, 5) = R := (sA.row fun _ z => n1 (by decide) z.1).trans hR
  have hTA : TwT hA := hT1.same sA
  generalize hL : sLeast R o N = LL at hΓ
  have fc : ∀ h', Same (fun a _ => a = (1, 47)) hA h' → TwT h' ∧ gI h' (1, 5) = R ∧ gI h' (1, 0) 3 = N ∧ (∀ k, gI h' (1, 1) k % 256 = o k) := fun h' hS => ⟨hTA.same hS, (hS.row fun _ => n1 (by decide)).trans aR, (hS.2.2 _ _ (n1 (by decide))).trans a3, fun k => by rw [hS.2.2 _ _ (n1 (by decide))]; exact aO k⟩
  obtain ⟨P, hP⟩ : ∃ P : Nat, P = 2 ^ N.toNat := ⟨_, rfl⟩
  have hPb : okLeast R o N → 4 ≤ P ∧ P ≤ 64 := fun hk => by
    have q1 : (2 : Nat) ^ 2 ≤ 2 ^ N.toNat := Nat.pow_le_pow_right (by decide) (by omega)
    have q2 : (2 : Nat) ^ N.toNat ≤ 2 ^ 6 := Nat.pow_le_pow_right (by decide) (by omega)
    rw [← hP] at q1 q2
    omega
  have hdoor : okLeast R o N → ∀ i : Int, 0 ≤ i → i < N → (0 ≤ o i ∧ o i < R 2) ∧ (0 ≤ R (3 + o i) ∧ R (3 + o i) < R 0 * R 1) ∧ sBears R (R (3 + o i)) := fun hk i i1 i2 => by
    have q := (hk.2 i i1 i2).1
    exact ⟨⟨q.1, by omega⟩, hok.dc _ q.1 (by omega)⟩
  -- the end
  have fin : okLeast R o N → ∀ (h' : zH) (C : Int → Int), Same (fun a _ => a = (1, 47)) hA h' → (∀ c, 0 ≤ c → c < R 0 * R 1 → gI h' (1, 47) (256 * ((P : Int) - 1) + c) = oFar (C c) ∧ (C c = -1 ∨ 0 ≤ C c ∧ C c ≤ 1000000)) → LL = sMinC C (R 0 * R 1).toNat → ∀ (m n : Nat), (n : Int) + m = R 0 * R 1 → SS Γ 297 [some (zR (some (1, 0))), some (zI (R 0 * R 1)), some (zI ((P : Int) - 1)), some (zI (oFar (sMinC C n))), some (zI n), none, none, none] [] h' 0 0 ∧ (sMinC C n = -1 ∨ 0 ≤ sMinC C n ∧ sMinC C n ≤ 1000000 ∨ True) := by
    intro hk h' C hS hC hLL m
    have hPb := hPb hk
    obtain ⟨hTw, r5, t3, tO⟩ := fc h' hS
    have hmr : ∀ n : Nat, (n : Int) ≤ R 0 * R 1 → sMinC C n = -1 ∨ 0 ≤ sMinC C n ∧ sMinC C n ≤ 1000000 := by
      intro n
      induction n with
      | zero => intro _; exact Or.inl rfl
      | succ n ih => intro hn; exact oMin_r (ih (by omega)) (hC n (by omega) (by omega)).2 (by decide)
    induction m with
    | zero =>
      intro n hn
      refine ⟨?_, Or.inr (Or.inr trivial)⟩
      have q := hmr n (by omega)
      have hfar : oFar (sMinC C n) = if sMinC C n < 0 then 10000000 else sMinC C n := rfl
      have hSX := sA2.tr (hS.mono fun a j z => (by rw [z]; exact Or.inl (cC_in (by omega)) : cX a j))
      have hLn : LL = sMinC C n := by rw [hLL, show n = (R 0 * R 1).toNat by omega]
      generalize sMinC C n = V at q hfar hLn
      refine zs_iload hΓ dX5_least_297 (pc' := 299) rfl rfl ?_
      refine zs_iload_n hΓ dX5_least_299 (pc' := 300) rfl rfl rfl ?_
      refine zs_icmpge hΓ dX5_least_300 (tgt := 344) (by decide) (pc' := 303) rfl (fun c_300 => ?_) (fun c_300 => False.elim (absurd c_300 (by omega)))
      refine zs_iload_n hΓ dX5_least_344 (pc' := 345) rfl rfl rfl ?_
      refine zs_ldcw hΓ dX5_least_345 (pc' := 348) rfl (v := 10000000) q2179 ⟨by decide, by decide⟩ ?_
      refine zs_icmplt hΓ dX5_least_348 (tgt := 355) (by decide) (pc' := 351) rfl (fun c_348 => ?_) (fun c_348 => ?_)
      · refine zs_iload_n hΓ dX5_least_355 (pc' := 356) rfl rfl rfl ?_
        exact zs_iret hΓ dX5_least_356 rfl (by omega) (by omega) (⟨_, rfl, fun _ => ⟨by rw [hLn]; split at hfar <;> omega, hSX⟩, fun z => absurd hk z⟩)
      · refine zs_iconst hΓ dX5_least_351 (pc' := 352) rfl ⟨by decide, by decide⟩ ?_
        refine zs_goto hΓ dX5_least_352 (tgt := 356) (by decide) ?_
        exact zs_iret hΓ dX5_least_356 rfl (by omega) (by omega) (⟨_, rfl, fun _ => ⟨by rw [hLn]; split at hfar <;> omega, hSX⟩, fun z => absurd hk z⟩)
    | succ m ih =>
      intro n hn
      refine ⟨?_, Or.inr (Or.inr trivial)⟩
      obtain ⟨e1, e2⟩ := hC n (by omega) (by omega)
      have q := hmr n (by omega)
      have hu : sMinC C (n + 1) = oMin (sMinC C n) (C n) := rfl
      have h9 := (ih (n + 1) (by omega)).1
      rw [hu, show ((n + 1 : Nat) : Int) = (n : Int) + 1 by omega] at h9
      generalize sMinC C n = V at q h9
      generalize hX : C n = X at e1 e2 h9
      obtain ⟨k1, k2⟩ := oFar_mn q e2
      have rX : 0 ≤ oFar X ∧ oFar X ≤ 10000000 := by unfold oFar; split <;> omega
      refine zs_iload hΓ dX5_least_297 (pc' := 299) rfl rfl ?_
      refine zs_iload_n hΓ dX5_least_299 (pc' := 300) rfl rfl rfl ?_
      refine zs_icmpge hΓ dX5_least_300 (tgt := 344) (by decide) (pc' := 303) rfl (fun c_300 => False.elim (absurd c_300 (by omega))) (fun c_300 => ?_)
      refine zs_aload_n hΓ dX5_least_303 (pc' := 304) rfl rfl rfl ?_
      refine zs_getrE hΓ dX5_least_304 (pc' := 307) rfl fX5_101 (i9 := 47) rfl rfl (tw_t hTw) (tw_p47 hTw) ?_
      refine zs_sipush hΓ dX5_least_307 (pc' := 310) rfl ⟨by decide, by decide⟩ ?_
      refine zs_iload_n hΓ dX5_least_310 (pc' := 311) rfl rfl rfl ?_
      refine zs_imul hΓ dX5_least_311 (pc' := 312) rfl (by unfold inI; omega) ?_
      refine zs_iload hΓ dX5_least_312 (pc' := 314) rfl rfl ?_
      refine zs_iadd hΓ dX5_least_314 (pc' := 315) rfl (by unfold inI; omega) ?_
      refine zs_iald hΓ dX5_least_315 (pc' := 316) rfl (tw_a47 hTw) (by omega) (by omega) ?_
      refine zs_eqI e1 ?_
      refine zs_iload_n hΓ dX5_least_316 (pc' := 317) rfl rfl rfl ?_
      refine zs_icmpge hΓ dX5_least_317 (tgt := 336) (by decide) (pc' := 320) rfl (fun c_317 => ?_) (fun c_317 => ?_)
      · refine zs_iload_n hΓ dX5_least_336 (pc' := 337) rfl rfl rfl ?_
        refine zs_istore_n hΓ dX5_least_337 (pc' := 338) rfl (L' := [some (zR _), some (zI _), some (zI _), some (zI _), some (zI _), none, none, none]) rfl (by decide) rfl rfl ?_
        refine zs_iinc hΓ dX5_least_338 (pc' := 341) rfl (L' := [some (zR _), some (zI _), some (zI _), some (zI _), some (zI _), none, none, none]) rfl (by unfold inI; omega) (by decide) rfl rfl ?_
        refine zs_goto hΓ dX5_least_341 (tgt := 297) (by decide) ?_
        rw [← k2 (by omega)] at h9; exact h9
      · refine zs_aload_n hΓ dX5_least_320 (pc' := 321) rfl rfl rfl ?_
        refine zs_getrE hΓ dX5_least_321 (pc' := 324) rfl fX5_101 (i9 := 47) rfl rfl (tw_t hTw) (tw_p47 hTw) ?_
        refine zs_sipush hΓ dX5_least_324 (pc' := 327) rfl ⟨by decide, by decide⟩ ?_
        refine zs_iload_n hΓ dX5_least_327 (pc' := 328) rfl rfl rfl ?_
        refine zs_imul hΓ dX5_least_328 (pc' := 329) rfl (by unfold inI; omega) ?_
        refine zs_iload hΓ dX5_least_329 (pc' := 331) rfl rfl ?_
        refine zs_iadd hΓ dX5_least_331 (pc' := 332) rfl (by unfold inI; omega) ?_
        refine zs_iald hΓ dX5_least_332 (pc' := 333) rfl (tw_a47 hTw) (by omega) (by omega) ?_
        refine zs_eqI e1 ?_
        refine zs_goto hΓ dX5_least_333 (tgt := 337) (by decide) ?_
        refine zs_istore_n hΓ dX5_least_337 (pc' := 338) rfl (L' := [some (zR _), some (zI _), some (zI _), some (zI _), some (zI _), none, none, none]) rfl (by decide) rfl rfl ?_
        refine zs_iinc hΓ dX5_least_338 (pc' := 341) rfl (L' := [some (zR _), some (zI _), some (zI _), some (zI _), some (zI _), none, none, none]) rfl (by unfold inI; omega) (by decide) rfl rfl ?_
        refine zs_goto hΓ dX5_least_341 (tgt := 297) (by decide) ?_
        rw [← k1 c_317] at h9; exact h9
  -- the sets, one by one
  have sets : okLeast R o N → ∀ (m k : Nat) (h' : zH), k + 1 + m = P → Same (fun a _ => a = (1, 47)) hA h' → TabOK R k (sTab R o N k) → (∀ (t : Nat) (c : Int), 1 ≤ t → t ≤ k → (0 ≤ c ∧ c < R 0 * R 1) → gI h' (1, 47) (256 * (t : Int) + c) = oFar (sTab R o N k t c)) → SS Γ 101 [some (zR (some (1, 0))), some (zI (R 0 * R 1)), some (zI ((P : Int) - 1)), some (zI ((k : Int) + 1)), none, none, none, none] [] h' 0 0 := by
    intro hk m
    have hPb := hPb hk
    induction m with
    | zero =>
      intro k h' hm hS hT hC
      have hk9 : (k : Int) = (P : Int) - 1 := by omega
      have hLL : LL = sMinC (sTab R o N k k) (R 0 * R 1).toNat := by rw [← hL, sLeast, ← hP, show P - 1 = k by omega]
      have h9 := (fin hk h' (sTab R o N k k) hS (fun c c1 c2 => ⟨by rw [← hk9]; exact hC k c (by omega) (Nat.le_refl k) ⟨c1, c2⟩, (hT k c (by omega) (Nat.le_refl k) ⟨c1, c2⟩).imp id (fun z => by have := sPrice_r R c; omega)⟩) hLL (R 0 * R 1).toNat 0 (by omega)).1
      refine zs_iload_n hΓ dX5_least_101 (pc' := 102) rfl rfl rfl ?_
      refine zs_iload_n hΓ dX5_least_102 (pc' := 103) rfl rfl rfl ?_
      refine zs_icmpgt hΓ dX5_least_103 (tgt := 290) (by decide) (pc' := 106) rfl (fun c_103 => ?_) (fun c_103 => False.elim (absurd c_103 (by omega)))
      refine zs_ldcw hΓ dX5_least_290 (pc' := 293) rfl (v := 10000000) q2179 ⟨by decide, by decide⟩ ?_
      refine zs_istore_n hΓ dX5_least_293 (pc' := 294) rfl (L' := [some (zR _), some (zI _), some (zI _), some (zI _), none, none, none, none]) rfl (by decide) rfl rfl ?_
      refine zs_iconst hΓ dX5_least_294 (pc' := 295) rfl ⟨by decide, by decide⟩ ?_
      refine zs_istore hΓ dX5_least_295 (pc' := 297) rfl (L' := [some (zR _), some (zI _), some (zI _), some (zI _), some (zI _), none, none, none]) (by decide) rfl rfl ?_
      exact h9
    | succ m ih =>
      intro k h' hm hS hT hC
      have hk64 : k + 1 ≤ 63 := by omega
      have base : ∀ (m9 : Nat) (c : Int) (h'' : zH), c + m9 = R 0 * R 1 → 0 ≤ c → Same (fun a _ => a = (1, 47)) hA h'' → (∀ (t : Nat) (c : Int), 1 ≤ t → t ≤ k → (0 ≤ c ∧ c < R 0 * R 1) → gI h'' (1, 47) (256 * (t : Int) + c) = oFar (sTab R o N k t c)) → (∀ x, 0 ≤ x → x < c → gI h'' (1, 47) (256 * ((k : Int) + 1) + x) = oFar (sBase R o N (sTab R o N k) (k + 1) x)) → SS Γ 109 [some (zR (some (1, 0))), some (zI (R 0 * R 1)), some (zI ((P : Int) - 1)), some (zI ((k : Int) + 1)), some (zI c), none, none, none] [] h'' 0 0 := by
        intro m9
        induction m9 with
        | zero =>
          intro c h'' hc hc0 hS2 hC2 hb2
          obtain ⟨hTw, r5, t3, tO⟩ := fc h'' hS2
          have hb3 : ∀ x, 0 ≤ x → x < R 0 * R 1 → gI h'' (1, 47) (256 * ((k : Int) + 1) + x) = oFar (sBase R o N (sTab R o N k) (k + 1) x) := fun x x1 x2 => hb2 x x1 (by omega)
          have hbr : ∀ x, 0 ≤ x → x < R 0 * R 1 → sBase R o N (sTab R o N k) (k + 1) x = -1 ∨ sPrice R x ≤ sBase R o N (sTab R o N k) (k + 1) x ∧ sBase R o N (sTab R o N k) (k + 1) x ≤ 10800 * ((k + 1 : Nat) : Int) - 10776 := fun x x1 x2 => sBase_r hT ⟨x1, x2⟩
          have hbb : ∀ x, 0 ≤ x → x < R 0 * R 1 → 0 ≤ sBase R o N (sTab R o N k) (k + 1) x → sBears R x := fun x x1 x2 x3 => sBase_b hT (fun i i1 => (hdoor hk i (by omega) i1).2.2) ⟨x1, x2⟩ x3
          have hcase : ∀ x, 0 ≤ x → x < R 0 * R 1 → (gI h'' (1, 47) (256 * ((k : Int) + 1) + x) = 10000000 ∧ sBase R o N (sTab R o N k) (k + 1) x = -1) ∨ (gI h'' (1, 47) (256 * ((k : Int) + 1) + x) = sBase R o N (sTab R o N k) (k + 1) x ∧ sPrice R x ≤ sBase R o N (sTab R o N k) (k + 1) x ∧ sBase R o N (sTab R o N k) (k + 1) x ≤ 10800 * ((k : Int) + 1) - 10776) := fun x x1 x2 => by
            have q := hb3 x x1 x2
            have hpr := sPrice_r R x
            rcases hbr x x1 x2 with y | y
            · exact Or.inl ⟨by rw [q, y]; rfl, y⟩
            · exact Or.inr ⟨by rw [q, oFar_p (by omega)], y.1, by omega⟩
          generalize hBa : sBase R o N (sTab R o N k) (k + 1) = Ba at hb3 hbr hbb hcase
          have I0 : InvV R (fun c => sBears R c) (kPri R) (sBeg R Ba) 10000000 (10800 * ((k : Int) + 1) - 10776) 21 (fun c => gI h'' (1, 47) (256 * ((k : Int) + 1) + c)) := by
            refine InvV.mk (fun x x1 x2 hx => ?_) (fun x x1 x2 => ?_) (fun x v hx => ?_) (fun x x1 x2 hx => ?_)
            · have hpr := sPrice_r R x
              have q := (hcase x x1 x2).resolve_left (fun z => by have := z.1; omega)
              exact sVal_b ⟨⟨x1, x2⟩, hbb x x1 x2 (by omega), by show 0 ≤ gI h'' (1, 47) _; omega, q.1⟩
            · have hpr := sPrice_r R x
              rcases hcase x x1 x2 with q | q
              · show 0 ≤ gI h'' (1, 47) _ ∧ gI h'' (1, 47) _ ≤ _; omega
              · show 0 ≤ gI h'' (1, 47) _ ∧ gI h'' (1, 47) _ ≤ _; omega
            · obtain ⟨x1, x2, x3, x4⟩ := hx
              have q := (hcase x x1.1 x1.2).resolve_left (fun z => by have := z.2; omega)
              exact ⟨x1, by show gI h'' (1, 47) _ ≤ _; omega, by omega⟩
            · have q := (hcase x x1 x2).resolve_left (fun z => by have := z.1; omega)
              have h2 := cntP_r (fun x => gI h'' (1, 47) (256 * ((k : Int) + 1) + x) < 10000000) (R 0 * R 1).toNat
              show gI h'' (1, 47) _ ≤ _
              omega
          have hBge : ∀ c v, sBeg R Ba c v → sPrice R c ≤ v := fun c v hx => by
            obtain ⟨x1, x2, x3, x4⟩ := hx
            have q := (hcase c x1.1 x1.2).resolve_left (fun z => by have := z.2; omega)
            omega
          refine zs_iload hΓ dX5_least_109 (pc' := 111) rfl rfl ?_
          refine zs_iload_n hΓ dX5_least_111 (pc' := 112) rfl rfl rfl ?_
          refine zs_icmpge hΓ dX5_least_112 (tgt := 274) (by decide) (pc' := 115) rfl (fun c_112 => ?_) (fun c_112 => False.elim (absurd c_112 (by omega)))
          refine zs_aload_n hΓ dX5_least_274 (pc' := 275) rfl rfl rfl ?_
          refine zs_sipush hΓ dX5_least_275 (pc' := 278) rfl ⟨by decide, by decide⟩ ?_
          refine zs_iload_n hΓ dX5_least_278 (pc' := 279) rfl rfl rfl ?_
          refine zs_imul hΓ dX5_least_279 (pc' := 280) rfl (by unfold inI; omega) ?_
          refine zs_iload_n hΓ dX5_least_280 (pc' := 281) rfl rfl rfl ?_
          refine zs_callVV hΓ dX5_least_281 (pc' := 284) rfl kX5_466 (con_X5_widen l hTw r5 hw (M := 10800 * ((k : Int) + 1) - 10776) (by omega) (256 * ((k : Int) + 1)) (R 0 * R 1) (by omega) rfl (fun c v hx => hx.2.1) I0) (tw_t hTw) rfl rfl rfl (Nat.le_of_ble_eq_true rfl) (by omega) (by decide) (by omega) (by omega) (fun h_281 q_281 k_281 => ?_) (fun _ _ q _ => False.elim q)
          obtain ⟨p1, p2⟩ := q_281
          refine zs_iinc hΓ dX5_least_284 (pc' := 287) rfl (L' := [some (zR _), some (zI _), some (zI _), some (zI _), some (zI _), none, none, none]) rfl (by unfold inI; omega) (by decide) rfl rfl ?_
          refine zs_goto hΓ dX5_least_287 (tgt := 101) (by decide) ?_
          refine zs_drop 4 (L' := [some (zR _), some (zI _), some (zI _), some (zI _), none, none, none, none]) rfl ?_
          have hnew : ∀ c, 0 ≤ c → c < R 0 * R 1 → gI h_281 (1, 47) (256 * ((k : Int) + 1) + c) = oFar (sTab R o N (k + 1) (k + 1) c) ∧ (sTab R o N (k + 1) (k + 1) c = -1 ∨ (sBears R c ∧ sPrice R c ≤ sTab R o N (k + 1) (k + 1) c ∧ sTab R o N (k + 1) (k + 1) c ≤ 10800 * ((k : Int) + 1) - 5400)) := fun c c1 c2 => by
            have hpr := sPrice_r R c
            rw [sTab_new, hBa]
            rcases p2 c c1 c2 with ⟨⟨y1, y2⟩, y3⟩ | ⟨y1, y2⟩
            · have g1 := sVal_ge hBge y3.1
              have g2 := sVal_ok (fun c v hx => hx.2.1) y3.1
              rw [sDst_is y3, oFar_p (by omega)]
              exact ⟨rfl, Or.inr ⟨g2, g1, by omega⟩⟩
            · rw [sDst_no y2, y1]
              exact ⟨rfl, Or.inl rfl⟩
          have h9 := ih (k + 1) h_281 (by omega) (hS2.tr (p1.mono fun _ _ z => z.1)) (fun t c t1 t2 hc => by
            by_cases e : t = k + 1
            · rw [e, show ((k + 1 : Nat) : Int) = (k : Int) + 1 by omega]; exact (hnew c hc.1 hc.2).2
            · rw [sTab_old (by omega)]; exact hT t c t1 (by omega) hc) (fun t c t1 t2 hc => by
            by_cases e : t = k + 1
            · rw [e, show ((k + 1 : Nat) : Int) = (k : Int) + 1 by omega]; exact (hnew c hc.1 hc.2).1
            · rw [sTab_old (by omega), p1.2.2 _ _ (fun z => by have := z.2; omega)]; exact hC2 t c t1 (by omega) hc)
          rw [show ((k + 1 : Nat) : Int) = (k : Int) + 1 by omega] at h9
          exact h9
        | succ m9 ih9 =>
          intro c h'' hc hc0 hS2 hC2 hb2
          obtain ⟨hTw, r5, t3, tO⟩ := fc h'' hS2
          have hcc : 0 ≤ c ∧ c < R 0 * R 1 := ⟨hc0, by omega⟩
          have hpr := sPrice_r R c
          have store : ∀ T : Int, T = sBase R o N (sTab R o N k) (k + 1) c → SS Γ 253 [some (zR (some (1, 0))), some (zI (R 0 * R 1)), some (zI ((P : Int) - 1)), some (zI ((k : Int) + 1)), some (zI c), some (zI (oFar T)), some (zI 0), none] [] h'' 0 0 := by
            intro T hT9
            refine zs_aload_n hΓ dX5_least_253 (pc' := 254) rfl rfl rfl ?_
            refine zs_getrE hΓ dX5_least_254 (pc' := 257) rfl fX5_101 (i9 := 47) rfl rfl (tw_t hTw) (tw_p47 hTw) ?_
            refine zs_sipush hΓ dX5_least_257 (pc' := 260) rfl ⟨by decide, by decide⟩ ?_
            refine zs_iload_n hΓ dX5_least_260 (pc' := 261) rfl rfl rfl ?_
            refine zs_imul hΓ dX5_least_261 (pc' := 262) rfl (by unfold inI; omega) ?_
            refine zs_iload hΓ dX5_least_262 (pc' := 264) rfl rfl ?_
            refine zs_iadd hΓ dX5_least_264 (pc' := 265) rfl (by unfold inI; omega) ?_
            refine zs_iload hΓ dX5_least_265 (pc' := 267) rfl rfl ?_
            refine zs_iast hΓ dX5_least_267 (pc' := 268) rfl (tw_a47 hTw) (show (0 : Int) ≤ 1 by decide) (by omega) (by omega) ?_
            refine zs_iinc hΓ dX5_least_268 (pc' := 271) rfl (L' := [some (zR _), some (zI _), some (zI _), some (zI _), some (zI _), some (zI _), some (zI _), none]) rfl (by unfold inI; omega) (by decide) rfl rfl ?_
            refine zs_goto hΓ dX5_least_271 (tgt := 109) (by decide) ?_
            refine zs_drop 5 (L' := [some (zR _), some (zI _), some (zI _), some (zI _), some (zI _), none, some (zI _), none]) rfl ?_
            refine zs_drop 6 (L' := [some (zR _), some (zI _), some (zI _), some (zI _), some (zI _), none, none, none]) rfl ?_
            exact ih9 (c + 1) _ (by omega) (by omega) (hS2.set rfl) (fun t c' t1 t2 hc' => by rw [gI_setI, if_neg (fun z => by have := z.2; omega)]; exact hC2 t c' t1 t2 hc') (fun x x1 x2 => by rw [gI_setI]; by_cases e : x = c; rw [if_pos ⟨rfl, by omega⟩, hT9, e]; rw [if_neg (fun z => by have := z.2; omega)]; exact hb2 x x1 (by omega))
          have parts : ∀ (f part : Nat) (v : Int), part &&& (k + 1) = part → part < k + 1 → part ≤ f → (v = -1 ∨ 0 ≤ v ∧ v ≤ 1000000) → sPartF (sTab R o N k) (k + 1) c (sPrice R c) f part v = sBase R o N (sTab R o N k) (k + 1) c → SS Γ 179 [some (zR (some (1, 0))), some (zI (R 0 * R 1)), some (zI ((P : Int) - 1)), some (zI ((k : Int) + 1)), some (zI c), some (zI (oFar v)), some (zI part), none] [] h'' 0 0 := by
            intro f
            have zero9 : ∀ v : Int, v = sBase R o N (sTab R o N k) (k + 1) c → SS Γ 179 [some (zR (some (1, 0))), some (zI (R 0 * R 1)), some (zI ((P : Int) - 1)), some (zI ((k : Int) + 1)), some (zI c), some (zI (oFar v)), some (zI 0), none] [] h'' 0 0 := by
              intro v hv
              refine zs_iload hΓ dX5_least_179 (pc' := 181) rfl rfl ?_
              refine zs_ifle hΓ dX5_least_181 (tgt := 253) (by decide) (pc' := 184) rfl (fun c_181 => ?_) (fun c_181 => False.elim (absurd c_181 (by decide)))
              exact store v hv
            induction f with
            | zero =>
              intro part v h1 h2 h3 h4 h5
              have e : part = 0 := by omega
              subst e
              exact zero9 v h5
            | succ f ihf =>
              intro part v h1 h2 h3 h4 h5
              by_cases e : part = 0
              · subst e
                exact zero9 v (by rw [← h5]; rfl)
              · have hu : sPartF (sTab R o N k) (k + 1) c (sPrice R c) (f + 1) part v = sPartF (sTab R o N k) (k + 1) c (sPrice R c) f ((part - 1) &&& (k + 1)) (oMin v (oSum (sTab R o N k part c) (sTab R o N k (k + 1 - ((k + 1) &&& part)) c) (sPrice R c))) := by
                  show (if part = 0 then v else _) = _
                  rw [if_neg e]
                obtain ⟨s1, s2⟩ := and_sub h1
                obtain ⟨W, hW⟩ : ∃ W, W = (part - 1) &&& (k + 1) := ⟨_, rfl⟩
                have hWle : W ≤ part - 1 := by rw [hW]; exact Nat.and_le_left
                have hWa : W &&& (k + 1) = W := by rw [hW, Nat.and_assoc, Nat.and_self]
                rw [hu, s1, ← hW] at h5
                have x1 := hT part c (by omega) (by omega) hcc
                have x2 := hT (k + 1 - part) c (by omega) (by omega) hcc
                have c1 := hC2 part c (by omega) (by omega) hcc
                have c2 := hC2 (k + 1 - part) c (by omega) (by omega) hcc
                generalize hX : sTab R o N k part c = X at x1 c1 h5
                generalize hY : sTab R o N k (k + 1 - part) c = Y at x2 c2 h5
                obtain ⟨q1, q2⟩ := oFar_min (x := X) (y := Y) (v := v) (p := sPrice R c) (x1.imp id (fun z => z.2.1)) (x2.imp id (fun z => z.2.1)) (by omega) h4 hpr
                have hr3 : oMin v (oSum X Y (sPrice R c)) = -1 ∨ 0 ≤ oMin v (oSum X Y (sPrice R c)) ∧ oMin v (oSum X Y (sPrice R c)) ≤ 1000000 := oMin_r h4 (by unfold oSum; split; exact Or.inl rfl; exact Or.inr ⟨by omega, by omega⟩) (by decide)
                have go9 := ihf W _ hWa (by omega) (by omega) hr3 h5
                have rX : 0 ≤ oFar X ∧ oFar X ≤ 10000000 := by unfold oFar; split <;> omega
                have rY : 0 ≤ oFar Y ∧ oFar Y ≤ 10000000 := by unfold oFar; split <;> omega
                refine zs_iload hΓ dX5_least_179 (pc' := 181) rfl rfl ?_
                refine zs_ifle hΓ dX5_least_181 (tgt := 253) (by decide) (pc' := 184) rfl (fun c_181 => False.elim (absurd c_181 (by omega))) (fun c_181 => ?_)
                refine zs_aload_n hΓ dX5_least_184 (pc' := 185) rfl rfl rfl ?_
                refine zs_getrE hΓ dX5_least_185 (pc' := 188) rfl fX5_101 (i9 := 47) rfl rfl (tw_t hTw) (tw_p47 hTw) ?_
                refine zs_sipush hΓ dX5_least_188 (pc' := 191) rfl ⟨by decide, by decide⟩ ?_
                refine zs_iload hΓ dX5_least_191 (pc' := 193) rfl rfl ?_
                refine zs_imul hΓ dX5_least_193 (pc' := 194) rfl (by unfold inI; omega) ?_
                refine zs_iload hΓ dX5_least_194 (pc' := 196) rfl rfl ?_
                refine zs_iadd hΓ dX5_least_196 (pc' := 197) rfl (by unfold inI; omega) ?_
                refine zs_iald hΓ dX5_least_197 (pc' := 198) rfl (tw_a47 hTw) (by omega) (by omega) ?_
                refine zs_eqI c1 ?_
                refine zs_aload_n hΓ dX5_least_198 (pc' := 199) rfl rfl rfl ?_
                refine zs_getrE hΓ dX5_least_199 (pc' := 202) rfl fX5_101 (i9 := 47) rfl rfl (tw_t hTw) (tw_p47 hTw) ?_
                refine zs_sipush hΓ dX5_least_202 (pc' := 205) rfl ⟨by decide, by decide⟩ ?_
                refine zs_iload_n hΓ dX5_least_205 (pc' := 206) rfl rfl rfl ?_
                refine zs_iload hΓ dX5_least_206 (pc' := 208) rfl rfl ?_
                refine zs_iconst hΓ dX5_least_208 (pc' := 209) rfl ⟨by decide, by decide⟩ ?_
                refine zs_inot hΓ dX5_least_209 (pc' := 210) rfl ?_
                refine zs_iandC hΓ dX5_least_210 (pc' := 211) rfl (by omega) (by omega) (by unfold inI; omega) ?_
                refine zs_eqI (y := ((k + 1 - part : Nat) : Int)) (by rw [show ((k : Int) + 1).toNat = k + 1 by omega, Int.toNat_natCast, Nat.and_comm, h1]; omega) ?_
                refine zs_imul hΓ dX5_least_211 (pc' := 212) rfl (by unfold inI; omega) ?_
                refine zs_iload hΓ dX5_least_212 (pc' := 214) rfl rfl ?_
                refine zs_iadd hΓ dX5_least_214 (pc' := 215) rfl (by unfold inI; omega) ?_
                refine zs_iald hΓ dX5_least_215 (pc' := 216) rfl (tw_a47 hTw) (by omega) (by omega) ?_
                refine zs_eqI c2 ?_
                refine zs_iadd hΓ dX5_least_216 (pc' := 217) rfl (by unfold inI; omega) ?_
                refine zs_aload_n hΓ dX5_least_217 (pc' := 218) rfl rfl rfl ?_
                refine zs_iload hΓ dX5_least_218 (pc' := 220) rfl rfl ?_
                refine zs_callVIP hΓ dX5_least_220 (pc' := 223) rfl kX5_463 (con_X5_price l hTw c (by omega)) (tw_t hTw) rfl rfl rfl (Nat.le_of_ble_eq_true rfl) (by omega) (by decide) (by omega) (by omega) ?_ (fun _ _ q _ => False.elim q)
                rw [r5]
                refine zs_isub hΓ dX5_least_223 (pc' := 224) rfl (by unfold inI; omega) ?_
                refine zs_istore hΓ dX5_least_224 (pc' := 226) rfl (L' := [some (zR _), some (zI _), some (zI _), some (zI _), some (zI _), some (zI _), some (zI _), some (zI _)]) (by decide) rfl rfl ?_
                refine zs_iload hΓ dX5_least_226 (pc' := 228) rfl rfl ?_
                refine zs_iload hΓ dX5_least_228 (pc' := 230) rfl rfl ?_
                refine zs_icmpge hΓ dX5_least_230 (tgt := 238) (by decide) (pc' := 233) rfl (fun c_230 => ?_) (fun c_230 => ?_)
                · refine zs_iload hΓ dX5_least_238 (pc' := 240) rfl rfl ?_
                  refine zs_eqI (y := oFar (oMin v (oSum X Y (sPrice R c)))) (by first | exact q2 (by assumption) | exact q1 (by assumption) | exact q2 (by omega) | exact q1 (by omega)) ?_
                  refine zs_istore hΓ dX5_least_240 (pc' := 242) rfl (L' := [some (zR _), some (zI _), some (zI _), some (zI _), some (zI _), some (zI _), some (zI _), some (zI _)]) (by decide) rfl rfl ?_
                  refine zs_iload hΓ dX5_least_242 (pc' := 244) rfl rfl ?_
                  refine zs_iconst hΓ dX5_least_244 (pc' := 245) rfl ⟨by decide, by decide⟩ ?_
                  refine zs_isub hΓ dX5_least_245 (pc' := 246) rfl (by unfold inI; omega) ?_
                  refine zs_iload_n hΓ dX5_least_246 (pc' := 247) rfl rfl rfl ?_
                  refine zs_iandN hΓ dX5_least_247 (pc' := 248) rfl (by omega) (by omega) ?_
                  refine zs_eqI (y := (W : Int)) (by rw [hW, show ((part : Int) - 1).toNat = part - 1 by omega, show ((k : Int) + 1).toNat = k + 1 by omega]) ?_
                  refine zs_istore hΓ dX5_least_248 (pc' := 250) rfl (L' := [some (zR _), some (zI _), some (zI _), some (zI _), some (zI _), some (zI _), some (zI _), some (zI _)]) (by decide) rfl rfl ?_
                  refine zs_goto hΓ dX5_least_250 (tgt := 179) (by decide) ?_
                  refine zs_drop 7 (L' := [some (zR _), some (zI _), some (zI _), some (zI _), some (zI _), some (zI _), some (zI _), none]) rfl ?_
                  exact go9
                · refine zs_iload hΓ dX5_least_233 (pc' := 235) rfl rfl ?_
                  refine zs_goto hΓ dX5_least_235 (tgt := 240) (by decide) ?_
                  refine zs_eqI (y := oFar (oMin v (oSum X Y (sPrice R c)))) (by first | exact q2 (by assumption) | exact q1 (by assumption) | exact q2 (by omega) | exact q1 (by omega)) ?_
                  refine zs_istore hΓ dX5_least_240 (pc' := 242) rfl (L' := [some (zR _), some (zI _), some (zI _), some (zI _), some (zI _), some (zI _), some (zI _), some (zI _)]) (by decide) rfl rfl ?_
                  refine zs_iload hΓ dX5_least_242 (pc' := 244) rfl rfl ?_
                  refine zs_iconst hΓ dX5_least_244 (pc' := 245) rfl ⟨by decide, by decide⟩ ?_
                  refine zs_isub hΓ dX5_least_245 (pc' := 246) rfl (by unfold inI; omega) ?_
                  refine zs_iload_n hΓ dX5_least_246 (pc' := 247) rfl rfl rfl ?_
                  refine zs_iandN hΓ dX5_least_247 (pc' := 248) rfl (by omega) (by omega) ?_
                  refine zs_eqI (y := (W : Int)) (by rw [hW, show ((part : Int) - 1).toNat = part - 1 by omega, show ((k : Int) + 1).toNat = k + 1 by omega]) ?_
                  refine zs_istore hΓ dX5_least_248 (pc' := 250) rfl (L' := [some (zR _), some (zI _), some (zI _), some (zI _), some (zI _), some (zI _), some (zI _), some (zI _)]) (by decide) rfl rfl ?_
                  refine zs_goto hΓ dX5_least_250 (tgt := 179) (by decide) ?_
                  refine zs_drop 7 (L' := [some (zR _), some (zI _), some (zI _), some (zI _), some (zI _), some (zI _), some (zI _), none]) rfl ?_
                  exact go9
          have ones : ∀ (m8 i : Nat), (i : Int) + m8 = N → SS Γ 123 [some (zR (some (1, 0))), some (zI (R 0 * R 1)), some (zI ((P : Int) - 1)), some (zI ((k : Int) + 1)), some (zI c), some (zI (oFar (zIf (∃ j : Nat, j < i ∧ k + 1 = 2 ^ j ∧ R (3 + o j) = c) (sPrice R c) (-1)))), some (zI i), none] [] h'' 0 0 := by
            intro m8
            induction m8 with
            | zero =>
              intro i hi
              have hv : zIf (∃ j : Nat, j < i ∧ k + 1 = 2 ^ j ∧ R (3 + o j) = c) (sPrice R c) (-1) = sBase1 R o N (k + 1) c := by
                unfold sBase1
                by_cases e : ∃ j : Nat, j < i ∧ k + 1 = 2 ^ j ∧ R (3 + o j) = c
                · rw [zIf_t e, zIf_t]
                  obtain ⟨j, j1, j2⟩ := e
                  exact ⟨j, by omega, j2⟩
                · rw [zIf_f e, zIf_f]
                  rintro ⟨j, j1, j2⟩
                  exact e ⟨j, by omega, j2⟩
              rw [hv]
              have hvr : sBase1 R o N (k + 1) c = -1 ∨ 0 ≤ sBase1 R o N (k + 1) c ∧ sBase1 R o N (k + 1) c ≤ 1000000 := by
                unfold sBase1
                by_cases e : ∃ i : Nat, (i : Int) < N ∧ k + 1 = 2 ^ i ∧ R (3 + o i) = c
                · rw [zIf_t e]; omega
                · rw [zIf_f e]; exact Or.inl rfl
              have hle : (k + 1 - 1) &&& (k + 1) ≤ k + 1 - 1 := Nat.and_le_left
              have go9 := parts 64 ((k + 1 - 1) &&& (k + 1)) (sBase1 R o N (k + 1) c) (by rw [Nat.and_assoc, Nat.and_self]) (by omega) (by omega) hvr rfl
              refine zs_iload hΓ dX5_least_123 (pc' := 125) rfl rfl ?_
              refine zs_aload_n hΓ dX5_least_125 (pc' := 126) rfl rfl rfl ?_
              refine zs_geti hΓ dX5_least_126 (pc' := 129) rfl fX5_18 (i9 := 3) rfl rfl (tw_t hTw) ?_
              refine zs_eqI t3 ?_
              refine zs_icmpge hΓ dX5_least_129 (tgt := 172) (by decide) (pc' := 132) rfl (fun c_129 => ?_) (fun c_129 => False.elim (absurd c_129 (by omega)))
              refine zs_iload_n hΓ dX5_least_172 (pc' := 173) rfl rfl rfl ?_
              refine zs_iconst hΓ dX5_least_173 (pc' := 174) rfl ⟨by decide, by decide⟩ ?_
              refine zs_isub hΓ dX5_least_174 (pc' := 175) rfl (by unfold inI; omega) ?_
              refine zs_iload_n hΓ dX5_least_175 (pc' := 176) rfl rfl rfl ?_
              refine zs_iandN hΓ dX5_least_176 (pc' := 177) rfl (by omega) (by omega) ?_
              refine zs_eqI (y := (((k + 1 - 1) &&& (k + 1) : Nat) : Int)) (by rw [show ((k : Int) + 1 - 1).toNat = k + 1 - 1 by omega, show ((k : Int) + 1).toNat = k + 1 by omega]) ?_
              refine zs_istore hΓ dX5_least_177 (pc' := 179) rfl (L' := [some (zR _), some (zI _), some (zI _), some (zI _), some (zI _), some (zI _), some (zI _), none]) (by decide) rfl rfl ?_
              exact go9
            | succ m8 ih8 =>
              intro i hi
              have hd := hdoor hk i (by omega) (by omega)
              obtain ⟨Q, hQ⟩ : ∃ Q : Nat, Q = 2 ^ i := ⟨_, rfl⟩
              have hQ5 : Q ≤ 2 ^ 5 := by rw [hQ]; exact Nat.pow_le_pow_right (by decide) (by omega)
              have go9 := ih8 (i + 1) (by omega)
              rw [show ((i + 1 : Nat) : Int) = (i : Int) + 1 by omega] at go9
              have keep : ¬ (k + 1 = 2 ^ i ∧ R (3 + o i) = c) → zIf (∃ j : Nat, j < i + 1 ∧ k + 1 = 2 ^ j ∧ R (3 + o j) = c) (sPrice R c) (-1) = zIf (∃ j : Nat, j < i ∧ k + 1 = 2 ^ j ∧ R (3 + o j) = c) (sPrice R c) (-1) := fun hno => by
                by_cases e : ∃ j : Nat, j < i ∧ k + 1 = 2 ^ j ∧ R (3 + o j) = c
                · rw [zIf_t e, zIf_t]
                  obtain ⟨j, j1, j2⟩ := e
                  exact ⟨j, by omega, j2⟩
                · rw [zIf_f e, zIf_f]
                  rintro ⟨j, j1, j2⟩
                  by_cases q : j = i
                  · rw [q] at j2; exact hno j2
                  · exact e ⟨j, by omega, j2⟩
              refine zs_iload hΓ dX5_least_123 (pc' := 125) rfl rfl ?_
              refine zs_aload_n hΓ dX5_least_125 (pc' := 126) rfl rfl rfl ?_
              refine zs_geti hΓ dX5_least_126 (pc' := 129) rfl fX5_18 (i9 := 3) rfl rfl (tw_t hTw) ?_
              refine zs_eqI t3 ?_
              refine zs_icmpge hΓ dX5_least_129 (tgt := 172) (by decide) (pc' := 132) rfl (fun c_129 => False.elim (absurd c_129 (by omega))) (fun c_129 => ?_)
              refine zs_iload_n hΓ dX5_least_132 (pc' := 133) rfl rfl rfl ?_
              refine zs_iconst hΓ dX5_least_133 (pc' := 134) rfl ⟨by decide, by decide⟩ ?_
              refine zs_iload hΓ dX5_least_134 (pc' := 136) rfl rfl ?_
              refine zs_ishl (m := (Q : Int)) i hΓ dX5_least_136 (pc' := 137) rfl (by decide) (by omega) rfl (by rw [hQ]) (by unfold inI; omega) ?_
              refine zs_icmpne hΓ dX5_least_137 (tgt := 166) (by decide) (pc' := 140) rfl (fun c_137 => ?_) (fun c_137 => ?_)
              · refine zs_iinc hΓ dX5_least_166 (pc' := 169) rfl (L' := [some (zR _), some (zI _), some (zI _), some (zI _), some (zI _), some (zI _), some (zI _), none]) rfl (by unfold inI; omega) (by decide) rfl rfl ?_
                refine zs_goto hΓ dX5_least_169 (tgt := 123) (by decide) ?_
                rw [keep (fun z => by omega)] at go9; exact go9
              · refine zs_aload_n hΓ dX5_least_140 (pc' := 141) rfl rfl rfl ?_
                refine zs_getrE hΓ dX5_least_141 (pc' := 144) rfl fX5_30 (i9 := 5) rfl rfl (tw_t hTw) (tw_p5 hTw) ?_
                refine zs_iconst hΓ dX5_least_144 (pc' := 145) rfl ⟨by decide, by decide⟩ ?_
                refine zs_aload_n hΓ dX5_least_145 (pc' := 146) rfl rfl rfl ?_
                refine zs_iload hΓ dX5_least_146 (pc' := 148) rfl rfl ?_
                refine zs_callVIP hΓ dX5_least_148 (pc' := 151) rfl kX5_147 (con_X5_octet l hTw i (by omega)) (tw_t hTw) rfl rfl rfl (Nat.le_of_ble_eq_true rfl) (by omega) (by decide) (by omega) (by omega) ?_ (fun _ _ q _ => False.elim q)
                rw [tO]
                refine zs_iadd hΓ dX5_least_151 (pc' := 152) rfl (by unfold inI; omega) ?_
                refine zs_iald hΓ dX5_least_152 (pc' := 153) rfl (tw_a5 hTw) (by omega) (by omega) ?_
                refine zs_eqI (congrFun r5 _) ?_
                refine zs_iload hΓ dX5_least_153 (pc' := 155) rfl rfl ?_
                refine zs_icmpne hΓ dX5_least_155 (tgt := 166) (by decide) (pc' := 158) rfl (fun c_155 => ?_) (fun c_155 => ?_)
                · refine zs_iinc hΓ dX5_least_166 (pc' := 169) rfl (L' := [some (zR _), some (zI _), some (zI _), some (zI _), some (zI _), some (zI _), some (zI _), none]) rfl (by unfold inI; omega) (by decide) rfl rfl ?_
                  refine zs_goto hΓ dX5_least_169 (tgt := 123) (by decide) ?_
                  rw [keep (fun z => c_155 z.2)] at go9; exact go9
                · refine zs_aload_n hΓ dX5_least_158 (pc' := 159) rfl rfl rfl ?_
                  refine zs_iload hΓ dX5_least_159 (pc' := 161) rfl rfl ?_
                  refine zs_callVIP hΓ dX5_least_161 (pc' := 164) rfl kX5_463 (con_X5_price l hTw c (by omega)) (tw_t hTw) rfl rfl rfl (Nat.le_of_ble_eq_true rfl) (by omega) (by decide) (by omega) (by omega) ?_ (fun _ _ q _ => False.elim q)
                  rw [r5]
                  refine zs_istore hΓ dX5_least_164 (pc' := 166) rfl (L' := [some (zR _), some (zI _), some (zI _), some (zI _), some (zI _), some (zI _), some (zI _), none]) (by decide) rfl rfl ?_
                  refine zs_iinc hΓ dX5_least_166 (pc' := 169) rfl (L' := [some (zR _), some (zI _), some (zI _), some (zI _), some (zI _), some (zI _), some (zI _), none]) rfl (by unfold inI; omega) (by decide) rfl rfl ?_
                  refine zs_goto hΓ dX5_least_169 (tgt := 123) (by decide) ?_
                  rw [zIf_t ⟨i, by omega, by omega, c_155⟩, oFar_p (show 0 ≤ sPrice R c by omega)] at go9; exact go9
          have st9 := ones N.toNat 0 (by omega)
          rw [zIf_f (fun ⟨j, j1, _⟩ => by omega), oFar_n] at st9
          refine zs_iload hΓ dX5_least_109 (pc' := 111) rfl rfl ?_
          refine zs_iload_n hΓ dX5_least_111 (pc' := 112) rfl rfl rfl ?_
          refine zs_icmpge hΓ dX5_least_112 (tgt := 274) (by decide) (pc' := 115) rfl (fun c_112 => False.elim (absurd c_112 (by omega))) (fun c_112 => ?_)
          refine zs_ldcw hΓ dX5_least_115 (pc' := 118) rfl (v := 10000000) q2179 ⟨by decide, by decide⟩ ?_
          refine zs_istore hΓ dX5_least_118 (pc' := 120) rfl (L' := [some (zR _), some (zI _), some (zI _), some (zI _), some (zI _), some (zI _), none, none]) (by decide) rfl rfl ?_
          refine zs_iconst hΓ dX5_least_120 (pc' := 121) rfl ⟨by decide, by decide⟩ ?_
          refine zs_istore hΓ dX5_least_121 (pc' := 123) rfl (L' := [some (zR _), some (zI _), some (zI _), some (zI _), some (zI _), some (zI _), some (zI _), none]) (by decide) rfl rfl ?_
          exact st9
      refine zs_iload_n hΓ dX5_least_101 (pc' := 102) rfl rfl rfl ?_
      refine zs_iload_n hΓ dX5_least_102 (pc' := 103) rfl rfl rfl ?_
      refine zs_icmpgt hΓ dX5_least_103 (tgt := 290) (by decide) (pc' := 106) rfl (fun c_103 => False.elim (absurd c_103 (by omega))) (fun c_103 => ?_)
      refine zs_iconst hΓ dX5_least_106 (pc' := 107) rfl ⟨by decide, by decide⟩ ?_
      refine zs_istore hΓ dX5_least_107 (pc' := 109) rfl (L' := [some (zR _), some (zI _), some (zI _), some (zI _), some (zI _), none, none, none]) (by decide) rfl rfl ?_
      exact base (R 0 * R 1).toNat 0 h' (by omega) (by omega) hS hC (fun x x1 x2 => by omega)
  have run : okLeast R o N → ∀ z : Option zV, SS Γ 85 [some (zR (some (1, 0))), some (zI N), none, none, none, none, none, none] [] hA 0 0 := by
    intro hk _
    have hPb := hPb hk
    have hTw := hTA
    have st9 := sets hk (P - 1) 0 hA (by omega) (Same.rf _ _) (fun t c t1 t2 => by omega) (fun t c t1 t2 => by omega)
    refine zs_aload_n hΓ dX5_least_85 (pc' := 86) rfl rfl rfl ?_
    refine zs_callVIP hΓ dX5_least_86 (pc' := 89) rfl kX5_128 (con_X5_cells l hTw (by rw [aR]; exact hw)) (tw_t hTw) rfl rfl rfl (Nat.le_of_ble_eq_true rfl) (by omega) (by decide) (by omega) (by omega) ?_ (fun _ _ q _ => False.elim q)
    rw [aR]
    refine zs_istore_n hΓ dX5_least_89 (pc' := 90) rfl (L' := [some (zR _), some (zI _), none, none, none, none, none, none]) rfl (by decide) rfl rfl ?_
    refine zs_iconst hΓ dX5_least_90 (pc' := 91) rfl ⟨by decide, by decide⟩ ?_
    refine zs_aload_n hΓ dX5_least_91 (pc' := 92) rfl rfl rfl ?_
    refine zs_geti hΓ dX5_least_92 (pc' := 95) rfl fX5_18 (i9 := 3) rfl rfl (tw_t hTw) ?_
    refine zs_eqI a3 ?_
    refine zs_ishl (m := (P : Int)) N.toNat hΓ dX5_least_95 (pc' := 96) rfl (by decide) (by omega) (by omega) (by rw [hP]) (by unfold inI; omega) ?_
    refine zs_iconst hΓ dX5_least_96 (pc' := 97) rfl ⟨by decide, by decide⟩ ?_
    refine zs_isub hΓ dX5_least_97 (pc' := 98) rfl (by unfold inI; omega) ?_
    refine zs_eqI (y := (P : Int) - 1) (by omega) ?_
    refine zs_istore_n hΓ dX5_least_98 (pc' := 99) rfl (L' := [some (zR _), some (zI _), some (zI _), none, none, none, none, none]) rfl (by decide) rfl rfl ?_
    refine zs_iconst hΓ dX5_least_99 (pc' := 100) rfl ⟨by decide, by decide⟩ ?_
    refine zs_istore_n hΓ dX5_least_100 (pc' := 101) rfl (L' := [some (zR _), some (zI _), some (zI _), some (zI _), none, none, none, none]) rfl (by decide) rfl rfl ?_
    exact st9
  have chk : (2 ≤ N ∧ N ≤ 6) → ∀ (m : Nat) (i : Int), i + m = N → 0 ≤ i → (∀ i', 0 ≤ i' → i' < i → sIsDoor R (o i') ∧ ∀ j, 0 ≤ j → j < i' → o j ≠ o i') → SS Γ 27 [some (zR (some (1, 0))), some (zI i), none, none, none, none, none, none] [] hA 0 0 := by
    intro hN6 m
    have hTw := hTA
    induction m with
    | zero =>
      intro i hi hi0 hal
      have st9 := run ⟨hN6, fun i' a1 a2 => hal i' a1 (by omega)⟩ none
      rw [show N = i by omega] at st9
      refine zs_iload_n hΓ dX5_least_27 (pc' := 28) rfl rfl rfl ?_
      refine zs_aload_n hΓ dX5_least_28 (pc' := 29) rfl rfl rfl ?_
      refine zs_geti hΓ dX5_least_29 (pc' := 32) rfl fX5_18 (i9 := 3) rfl rfl (tw_t hTw) ?_
      refine zs_eqI a3 ?_
      refine zs_icmpge hΓ dX5_least_32 (tgt := 85) (by decide) (pc' := 35) rfl (fun c_32 => ?_) (fun c_32 => False.elim (absurd c_32 (by omega)))
      exact st9
    | succ m ih =>
      intro i hi hi0 hal
      have hno : ¬ (sIsDoor R (o i) ∧ ∀ j, 0 ≤ j → j < i → o j ≠ o i) → ¬ okLeast R o N := fun z q => z (q.2 i hi0 (by omega))
      have inner : sIsDoor R (o i) → ∀ (m9 : Nat) (j : Int), j + m9 = i → 0 ≤ j → (∀ j', 0 ≤ j' → j' < j → o j' ≠ o i) → SS Γ 52 [some (zR (some (1, 0))), some (zI i), some (zI j), none, none, none, none, none] [] hA 0 0 := by
        intro hdr m9
        induction m9 with
        | zero =>
          intro j hj hj0 hal2
          refine zs_iload_n hΓ dX5_least_52 (pc' := 53) rfl rfl rfl ?_
          refine zs_iload_n hΓ dX5_least_53 (pc' := 54) rfl rfl rfl ?_
          refine zs_icmpge hΓ dX5_least_54 (tgt := 79) (by decide) (pc' := 57) rfl (fun c_54 => ?_) (fun c_54 => False.elim (absurd c_54 (by omega)))
          refine zs_iinc hΓ dX5_least_79 (pc' := 82) rfl (L' := [some (zR _), some (zI _), some (zI _), none, none, none, none, none]) rfl (by unfold inI; omega) (by decide) rfl rfl ?_
          refine zs_goto hΓ dX5_least_82 (tgt := 27) (by decide) ?_
          refine zs_drop 2 (L' := [some (zR _), some (zI _), none, none, none, none, none, none]) rfl ?_
          exact ih (i + 1) (by omega) (by omega) (fun i' a1 a2 => by by_cases e : i' = i; rw [e]; exact ⟨hdr, fun j' b1 b2 => hal2 j' b1 (by omega)⟩; exact hal i' a1 (by omega))
        | succ m9 ih9 =>
          intro j hj hj0 hal2
          refine zs_iload_n hΓ dX5_least_52 (pc' := 53) rfl rfl rfl ?_
          refine zs_iload_n hΓ dX5_least_53 (pc' := 54) rfl rfl rfl ?_
          refine zs_icmpge hΓ dX5_least_54 (tgt := 79) (by decide) (pc' := 57) rfl (fun c_54 => False.elim (absurd c_54 (by omega))) (fun c_54 => ?_)
          refine zs_aload_n hΓ dX5_least_57 (pc' := 58) rfl rfl rfl ?_
          refine zs_iload_n hΓ dX5_least_58 (pc' := 59) rfl rfl rfl ?_
          refine zs_callVIP hΓ dX5_least_59 (pc' := 62) rfl kX5_147 (con_X5_octet l hTw j (by omega)) (tw_t hTw) rfl rfl rfl (Nat.le_of_ble_eq_true rfl) (by omega) (by decide) (by omega) (by omega) ?_ (fun _ _ q _ => False.elim q)
          rw [aO]
          refine zs_aload_n hΓ dX5_least_62 (pc' := 63) rfl rfl rfl ?_
          refine zs_iload_n hΓ dX5_least_63 (pc' := 64) rfl rfl rfl ?_
          refine zs_callVIP hΓ dX5_least_64 (pc' := 67) rfl kX5_147 (con_X5_octet l hTw i (by omega)) (tw_t hTw) rfl rfl rfl (Nat.le_of_ble_eq_true rfl) (by omega) (by decide) (by omega) (by omega) ?_ (fun _ _ q _ => False.elim q)
          rw [aO]
          refine zs_icmpne hΓ dX5_least_67 (tgt := 73) (by decide) (pc' := 70) rfl (fun c_67 => ?_) (fun c_67 => ?_)
          · refine zs_iinc hΓ dX5_least_73 (pc' := 76) rfl (L' := [some (zR _), some (zI _), some (zI _), none, none, none, none, none]) rfl (by unfold inI; omega) (by decide) rfl rfl ?_
            refine zs_goto hΓ dX5_least_76 (tgt := 52) (by decide) ?_
            exact ih9 (j + 1) (by omega) (by omega) (fun j' b1 b2 => by by_cases e : j' = j; rw [e]; exact c_67; exact hal2 j' b1 (by omega))
          · refine zs_bipush hΓ dX5_least_70 (pc' := 72) rfl ⟨by decide, by decide⟩ ?_
            exact zs_iret hΓ dX5_least_72 rfl (by omega) (by omega) (⟨_, rfl, fun z => absurd z (hno fun q => q.2 j hj0 (by omega) c_67), fun _ => ⟨rfl, sA2⟩⟩)
      refine zs_iload_n hΓ dX5_least_27 (pc' := 28) rfl rfl rfl ?_
      refine zs_aload_n hΓ dX5_least_28 (pc' := 29) rfl rfl rfl ?_
      refine zs_geti hΓ dX5_least_29 (pc' := 32) rfl fX5_18 (i9 := 3) rfl rfl (tw_t hTw) ?_
      refine zs_eqI a3 ?_
      refine zs_icmpge hΓ dX5_least_32 (tgt := 85) (by decide) (pc' := 35) rfl (fun c_32 => False.elim (absurd c_32 (by omega))) (fun c_32 => ?_)
      refine zs_aload_n hΓ dX5_least_35 (pc' := 36) rfl rfl rfl ?_
      refine zs_aload_n hΓ dX5_least_36 (pc' := 37) rfl rfl rfl ?_
      refine zs_iload_n hΓ dX5_least_37 (pc' := 38) rfl rfl rfl ?_
      refine zs_callVIP hΓ dX5_least_38 (pc' := 41) rfl kX5_147 (con_X5_octet l hTw i (by omega)) (tw_t hTw) rfl rfl rfl (Nat.le_of_ble_eq_true rfl) (by omega) (by decide) (by omega) (by omega) ?_ (fun _ _ q _ => False.elim q)
      rw [aO]
      refine zs_callVIP hΓ dX5_least_41 (pc' := 44) rfl kX5_340 (con_X5_isDoor l hTw (o i) (by rw [aR]; exact hd9)) (tw_t hTw) rfl rfl rfl (Nat.le_of_ble_eq_true rfl) (by omega) (by decide) (by omega) (by omega) ?_ (fun _ _ q _ => False.elim q)
      rw [aR]
      refine zs_ifne hΓ dX5_least_44 (tgt := 50) (by decide) (pc' := 47) rfl (fun c_44 => ?_) (fun c_44 => ?_)
      · try have c_44 := iB_ne c_44
        refine zs_iconst hΓ dX5_least_50 (pc' := 51) rfl ⟨by decide, by decide⟩ ?_
        refine zs_istore_n hΓ dX5_least_51 (pc' := 52) rfl (L' := [some (zR _), some (zI _), some (zI _), none, none, none, none, none]) rfl (by decide) rfl rfl ?_
        exact inner c_44 i.toNat 0 (by omega) (by omega) (fun j' _ _ => by omega)
      · try have c_44 := iB_eq c_44
        refine zs_bipush hΓ dX5_least_47 (pc' := 49) rfl ⟨by decide, by decide⟩ ?_
        exact zs_iret hΓ dX5_least_49 rfl (by omega) (by omega) (⟨_, rfl, fun z => absurd z (hno fun q => c_44 q.1), fun _ => ⟨rfl, sA2⟩⟩)
  refine zs_aload_n hΓ dX5_least_0 (pc' := 1) rfl rfl rfl ?_
  refine zs_iconst hΓ dX5_least_1 (pc' := 2) rfl ⟨by decide, by decide⟩ ?_
  refine zs_puti hΓ dX5_least_2 (pc' := 5) rfl fX5_1 (fun q hq => (by cases hq; exact Or.inl rfl)) (i9 := 0) rfl trivial (tw_t hTw) (show (0 : Int) ≤ 1 by decide) ?_
  rw [← e1]; have hTw := hT1
  refine zs_aload_n hΓ dX5_least_5 (pc' := 6) rfl rfl rfl ?_
  refine zs_callVVE hΓ dX5_least_6 (pc' := 9) rfl kX5_144 (con_X5_taken l hTw) (tw_t hTw) rfl rfl rfl (Nat.le_of_ble_eq_true rfl) (by omega) (by decide) (by omega) (by omega) ?_ (fun _ _ q _ => False.elim q)
  rw [hN, ← hAe]; have hTw := hTA
  refine zs_aload_n hΓ dX5_least_9 (pc' := 10) rfl rfl rfl ?_
  refine zs_geti hΓ dX5_least_10 (pc' := 13) rfl fX5_18 (i9 := 3) rfl rfl (tw_t hTw) ?_
  refine zs_eqI a3 ?_
  refine zs_iconst hΓ dX5_least_13 (pc' := 14) rfl ⟨by decide, by decide⟩ ?_
  refine zs_bipush hΓ dX5_least_14 (pc' := 16) rfl ⟨by decide, by decide⟩ ?_
  refine zs_callSIP hΓ dX5_least_16 (pc' := 19) rfl kX5_132 (con_X5_isIn l _ _ _) rfl rfl (Nat.le_of_ble_eq_true rfl) (by omega) (by decide) (by omega) (by omega) ?_ (fun _ _ q _ => False.elim q)
  refine zs_ifne hΓ dX5_least_19 (tgt := 25) (by decide) (pc' := 22) rfl (fun c_19 => ?_) (fun c_19 => ?_)
  · try have c_19 := iB_ne c_19
    refine zs_iconst hΓ dX5_least_25 (pc' := 26) rfl ⟨by decide, by decide⟩ ?_
    refine zs_istore_n hΓ dX5_least_26 (pc' := 27) rfl (L' := [some (zR _), some (zI _), none, none, none, none, none, none]) rfl (by decide) rfl rfl ?_
    exact chk c_19 N.toNat 0 (by omega) (by omega) (fun i' _ _ => by omega)
  · try have c_19 := iB_eq c_19
    refine zs_bipush hΓ dX5_least_22 (pc' := 24) rfl ⟨by decide, by decide⟩ ?_
    exact zs_iret hΓ dX5_least_24 rfl (by omega) (by omega) (⟨_, rfl, fun z => absurd z.1 c_19, fun _ => ⟨rfl, sA2⟩⟩)
