/-! THE NAMED HEAP, part F: names that move, new cells, statics, casts -/
set_option maxRecDepth 100000
theorem zEnc_move {ρ ρ' : zNm → Nat} {t : FieldType} {x : Int} {r : Option zNm} (hr : zCat t = 2 → ∀ b, r = some b → ρ' b = ρ b) : zEnc ρ' t x r = zEnc ρ t x r := by
  unfold zEnc
  by_cases c : zCat t = 2
  · rw [if_pos c, if_pos c]
    cases r with
    | none => rfl
    | some b => rw [Option.map_some, Option.map_some, hr c b rfl]
  · rw [if_neg c, if_neg c]
theorem zVal_move {ρ ρ' : zNm → Nat} {h : zH} {v : zV} (hw : zWfV h v) (hρ : ∀ c, gT h c ≠ none → ρ' c = ρ c) : zVal ρ' v = zVal ρ v := by
  match v, hw with
  | .inl x, _ => rfl
  | .inr (.inl x), _ => rfl
  | .inr (.inr none), _ => rfl
  | .inr (.inr (some b)), hw => show Value.ref (ρ' b) = Value.ref (ρ b); rw [hρ b (hw b rfl)]
theorem arrV_congr {cA : ClassId} {N : Nat} {f g : Nat → Value} (h : ∀ j, j < N → f j = g j) : arrV cA N f = arrV cA N g := by
  unfold arrV
  congr 1
  apply Array.ext
  · simp
  · intro i h1 h2
    simp only [Array.getElem_ofFn]
    exact h i (by simpa using h1)
theorem zAt1.move {D : va_G} {ρ ρ' : zNm → Nat} {h h' : zH} {H H' : Heap} {b : zNm} {kd N : Nat} (hA : zAt1 D ρ h H b kd N) (hb : gT h b = some (kd, N)) (hw : zWfH h) (hρ : ∀ c, gT h c ≠ none → ρ' c = ρ c) (hc : H'[ρ b]? = H[ρ b]?) (hz : H.size ≤ H'.size) (hi : ∀ k, gI h' b k = gI h b k) (hp : ∀ k, gP h' b k = gP h b k) : zAt1 D ρ' h' H' b kd N := by
  have hb9 : ρ' b = ρ b := hρ b (by rw [hb]; exact fun z => by cases z)
  have he : ∀ k : Nat, k < N → zEnc ρ' (zTy kd k) (gI h' b k) (gP h' b k) = zEnc ρ (zTy kd k) (gI h b k) (gP h b k) := by
    intro k hk
    rw [hi, hp]
    exact zEnc_move fun c x hx => hρ x (((hw b kd N hb).1 k hk).2.2 c x hx)
  rcases hA with ⟨q, h1, h2, h3⟩ | ⟨j, h1, h2, h3⟩ | ⟨h1, h2⟩
  · refine Or.inl ⟨q, h1, h2, ?_⟩
    rw [hb9]
    exact (h3.kept hc).to fun k hk => (he k (by omega)).symm
  · refine Or.inr (Or.inl ⟨j, h1, h2, ?_⟩)
    rw [hb9, hc, h3]
    congr 1
    apply arrV_congr
    intro k hk
    have e := he k hk
    rw [zTy_arr kd k (by omega)] at e
    exact e.symm
  · exact Or.inr (Or.inr ⟨h1, by rw [hb9]; omega⟩)
theorem zPr_move {ρ ρ' : zNm → Nat} {h : zH} {L : List (Option zV)} (hw : ∀ (i : Nat) (v : zV), L[i]? = some (some v) → zWfV h v) (hρ : ∀ c, gT h c ≠ none → ρ' c = ρ c) : ∀ q ∈ zPr ρ' L, q ∈ zPr ρ L := by
  intro q hq
  obtain ⟨v, h1, h2⟩ := zPr_mem.mp hq
  exact zPr_mem.mpr ⟨v, h1, by rw [h2]; exact zVal_move (hw q.1 v h1) hρ⟩
theorem zMap_move {ρ ρ' : zNm → Nat} {h : zH} {st : List zV} (hw : ∀ v ∈ st, zWfV h v) (hρ : ∀ c, gT h c ≠ none → ρ' c = ρ c) : st.map (zVal ρ') = st.map (zVal ρ) := by
  apply List.map_congr_left
  intro v hv
  exact zVal_move (hw v hv) hρ
/-- a cell is made, named a -/
theorem zSt.new {D : va_G} {A : Nat → Prop} {ρ0 ρ : zNm → Nat} {h0 h : zH} {L : List (Option zV)} {st : List zV} {H0 H H' : Heap} {locs : List Loc} {a : zNm} {kd N : Nat} (hS : zSt D A ρ0 h0 ρ L st h H0 H locs) (hA : ∀ q : Nat, H0.size ≤ q → A q) (ha : gT h a = none) (hn : 0 ≤ a.1)
    (z : H'.size = H.size + 1) (o : ∀ q : Nat, q < H.size → H'[q]? = H[q]?) (hc : ∀ ρ' : zNm → Nat, ρ' a = H.size → zAt1 D ρ' (newC h a kd N) H' a kd N) :
    zSt D A ρ0 h0 (fun b => if b = a then H.size else ρ b) L (zR (some a) :: st) (newC h a kd N) H0 H' locs ∧ (∀ c, gT h c ≠ none → (fun b => if b = a then H.size else ρ b) c = ρ c) := by
  have hρ : ∀ c, gT h c ≠ none → (fun b => if b = a then H.size else ρ b) c = ρ c := by
    intro c hc
    have : c ≠ a := fun e => hc (by rw [e]; exact ha)
    exact if_neg this
  obtain ⟨⟨e1, e2, e3, e4, e5, e6, e7⟩, f1, f2, f3⟩ := hS
  have hlt : ∀ b kd N, gT h b = some (kd, N) → ρ b < H.size := by
    intro b kd2 N2 hb
    rcases e1 b kd2 N2 hb with ⟨q, h1, h2, cell, h3, -⟩ | ⟨j, h1, h2, h3⟩ | ⟨h1, h2⟩
    · exact (Array.getElem?_eq_some_iff.mp h3).1
    · exact (Array.getElem?_eq_some_iff.mp h3).1
    · exact h2
  have hlt2 : ∀ b, gT h b ≠ none → ρ b < H.size := by
    intro b hb
    cases hq : gT h b with
    | none => exact absurd hq hb
    | some t => exact hlt b t.1 t.2 hq
  have hk : zKeep h (newC h a kd N) := by
    intro b t hb
    have hne : b ≠ a := fun e => by rw [e, ha] at hb; cases hb
    refine ⟨by rw [gT_newC, if_neg hne]; exact hb, fun _ k => ⟨by rw [gI_newC, if_neg hne], by rw [gP_newC, if_neg hne]⟩⟩
  have hwV : ∀ v, zWfV h v → zWfV (newC h a kd N) v := fun v hv => hv.keep hk
  refine ⟨⟨⟨?_, ?_, ?_, ⟨e4.1.tr hk, fun b hb => ?_⟩, fun b hb hb0 => ?_, by omega, fun q h1 h2 => ?_⟩, fun v hv => ?_, fun i v hv => hwV v (f2 i v hv), f3⟩, hρ⟩
  · intro b kd2 N2 hb
    rw [gT_newC] at hb
    by_cases e : b = a
    · rw [if_pos e] at hb
      cases hb
      rw [e]
      exact hc _ (if_pos rfl)
    · rw [if_neg e] at hb
      exact (e1 b kd2 N2 hb).move hb e3 hρ (o _ (hlt b kd2 N2 hb)) (by omega) (fun k => by rw [gI_newC, if_neg e]) (fun k => by rw [gP_newC, if_neg e])
  · intro b c hb hc2 hbc
    rw [gT_newC] at hb hc2
    dsimp only at hbc
    by_cases eb : b = a
    · by_cases ec : c = a
      · rw [eb, ec]
      · rw [if_pos eb, if_neg ec] at hbc
        rw [if_neg ec] at hc2
        have := hlt2 c hc2
        omega
    · rw [if_neg eb] at hb hbc
      by_cases ec : c = a
      · rw [if_pos ec] at hbc
        have := hlt2 b hb
        omega
      · rw [if_neg ec] at hc2 hbc
        exact e2 b c hb hc2 hbc
  · intro b kd2 N2 hb
    rw [gT_newC] at hb
    by_cases e : b = a
    · refine ⟨fun k hk2 => ⟨fun _ => ?_, fun _ => ?_, fun _ x hx => ?_⟩, fun k _ => ⟨by rw [gI_newC, if_pos e], by rw [gP_newC, if_pos e]⟩⟩
      · rw [gI_newC, if_pos e]; exact inI_0
      · rw [gI_newC, if_pos e]; exact inI_L inI_0
      · rw [gP_newC, if_pos e] at hx; cases hx
    · rw [if_neg e] at hb
      obtain ⟨ww, w4⟩ := e3 b kd2 N2 hb
      refine ⟨fun k hk2 => ?_, fun k hk2 => by rw [gI_newC, gP_newC, if_neg e, if_neg e]; exact w4 k hk2⟩
      obtain ⟨w1, w2, w3⟩ := ww k hk2
      refine ⟨fun c => ?_, fun c => ?_, fun c x hx => ?_⟩
      · rw [gI_newC, if_neg e]; exact w1 c
      · rw [gI_newC, if_neg e]; exact w2 c
      · rw [gP_newC, if_neg e] at hx; exact hk.ne (w3 c x hx)
  · rw [hρ b (e4.1.ne hb)]
    exact e4.2 b hb
  · rw [gT_newC] at hb
    by_cases e : b = a
    · show A (if b = a then H.size else ρ b)
      rw [if_pos e]
      exact hA _ e6
    · rw [if_neg e] at hb
      rw [hρ b hb]
      exact e5 b hb hb0
  · rw [o q (by omega)]
    exact e7 q h1 h2
  · rcases List.mem_cons.mp hv with e | e
    · rw [e]
      intro b hb
      cases hb
      rw [gT_newC, if_pos rfl]
      exact fun z => by cases z
    · exact hwV v (f1 v e)
/-- no field is of a floating type -/
def zNF (t : FieldType) : Bool := match t with
  | .float => false
  | .double => false
  | _ => true
theorem zNF_def {ρ : zNm → Nat} {t : FieldType} (h : zNF t = true) : defaultValue t = zEnc ρ t 0 none := by
  cases t <;> first | rfl | cases h
theorem zNF_all : ∀ kd, kd < 15 → ∀ k, k < 63 → zNF (zTy kd k) = true := by decide +kernel
theorem zCl_63 : ∀ (kd : Nat) (r : vw_C), zCl[kd]? = some r → kd < 15 ∧ r.2.2 ≤ 63 := by
  intro kd r hr
  have h1 : kd < 15 := (List.getElem?_eq_some_iff.mp hr).1
  refine ⟨h1, ?_⟩
  have h2 : ∀ kd, kd < 15 → ∀ N, (zCl[kd]?).map (fun r => r.2.2) = some N → N ≤ 63 := by
    intro kd hkd N hN
    have : ∀ kd, kd < 15 → ((zCl[kd]?).map (fun r => r.2.2)).getD 0 ≤ 63 := by decide +kernel
    have h3 := this kd hkd
    rw [hN] at h3
    exact h3
  exact h2 kd h1 r.2.2 (by rw [hr]; rfl)
section ZN
variable {Γ : zG} {l9 : Launch} {cc : ByteArray} {own nm : String} {nL : Nat} {ret : Option FieldType} {Q : Option zV → zH → Prop} {X : zNm → zH → Prop} {d mc ms : Nat} {pc pc' : Nat} {L : List (Option zV)} {st : List zV} {h : zH} {k n : Nat}
theorem zs_new {kd idx N : Nat} {C : String} (a : zNm) (hΓ : Ctx Γ l9 cc own nm nL ret Q X d mc ms) (hd : decode cc pc = .ok (.new idx, 3)) (hp : pc + 3 = pc') (hr : (zCl[kd]?).map (fun q => (q.1, q.2.2)) = some (C, N)) (hcl : Cond.classLink own idx C ∈ lw_all) (hin : Cond.instantiable C N ∈ lw_all) (hini : Cond.initialized C ∈ lw_all) (ha : gT h a = none) (hn : 0 ≤ a.1) (hk : k + 1 ≤ mc) (hs : n + N ≤ ms)
    (kk : SS Γ pc' L (zR (some a) :: st) (newC h a kd N) (k + 1) (n + N)) : SS Γ pc L st h k n := by
  obtain ⟨p, l, e, R, s, m, args, below, meth, c, A, D, Q0, X0, mc0, ms0, ρ0, h0⟩ := Γ
  obtain ⟨hx, hb, hml, hret, hlk, hown, hts, hA, hK, hnm, rfl, rfl, rfl, rfl, rfl, rfl⟩ := hΓ
  subst hp
  intro ρ ls H locs hl hS
  cases hr9 : zCl[kd]? with
  | none => rw [hr9] at hr; cases hr
  | some r =>
    rw [hr9] at hr
    cases hr
    have hKn := hK.1.1 kd r hr9
    obtain ⟨hin9, hty, -, -⟩ := zcl_ok kd r hr9
    obtain ⟨hk15, hN63⟩ := zCl_63 kd r hr9
    refine W.newcK hx hb hown (hts _ hcl) (hts _ hin) (hts _ hini) rfl hd hk hs hKn.2.1 rfl fun H1 kC hkC e1 z1 o1 => ?_
    obtain ⟨hS1, hρ⟩ := hS.new (kd := kd) (N := r.2.2) hA ha hn z1 o1 (fun ρ' hρ' => Or.inl ⟨r, hr9, rfl, by
      rw [hρ']
      refine (u_born (zTy kd) hts hin9 hKn hkC e1 hty).to fun k2 hk2 => ?_
      rw [gI_newC, gP_newC, if_pos rfl, if_pos rfl]
      exact zNF_def (zNF_all kd hk15 k2 (by omega))⟩)
    have h9 := kk _ ls H1 locs (zl_has hl (zPr_move hS.2.2.1 hρ)) hS1
    have e9 : (zR (some a) :: st).map (zVal (fun b => if b = a then H.size else ρ b)) = .ref H.size :: st.map (zVal ρ) := by
      rw [List.map_cons, zMap_move hS.2.1 hρ, zVal_R, if_pos rfl]
    rw [e9] at h9
    exact h9
/-- newarray: kind 100 + j -/
theorem zs_newa {j N : Nat} {x : Int} {ty : ArrayType} (a : zNm) (hΓ : Ctx Γ l9 cc own nm nL ret Q X d mc ms) (hd : decode cc pc = .ok (.newarray ty, 2)) (hp : pc + 2 = pc') (hj : j < 4) (hty : newarray.typeOf ty = zTy (100 + j) 0) (harr : Cond.arrayClass (newarray.typeOf ty) ∈ lw_all) (hx9 : x = (N : Int)) (hN : N ≤ 60000000) (ha : gT h a = none) (hn : 0 ≤ a.1) (hk : k + 1 ≤ mc) (hs : n + N ≤ ms)
    (kk : SS Γ pc' L (zR (some a) :: st) (newC h a (100 + j) N) (k + 1) (n + N)) : SS Γ pc L (zI x :: st) h k n := by
  obtain ⟨p, l, e, R, s, m, args, below, meth, c, A, D, Q0, X0, mc0, ms0, ρ0, h0⟩ := Γ
  obtain ⟨hx, hb, hml, hret, hlk, hown, hts, hA, hK, hnm, rfl, rfl, rfl, rfl, rfl, rfl⟩ := hΓ
  subst hp; subst hx9
  intro ρ ls H locs hl hS
  have w : inI (N : Int) := hS.hd
  have hcl : (iO (N : Int)).toNatClampNeg = N := by rw [iO_clamp (Int.natCast_nonneg N) w]; rfl
  have hbyte : ∀ t : FieldType, componentBytes t ≤ 8 := by
    intro t
    cases t <;> first | decide | simp [componentBytes]
  have h8 := hbyte (newarray.typeOf ty)
  refine W.newa hx hb (hts _ harr) rfl hd rfl (fun z => by have := (iO_lt0 w).mp z; omega) (by rw [hcl]; exact Nat.le_trans (Nat.mul_le_mul hN h8) (by decide)) hk (by rw [hcl]; exact hs) fun cA kA comp g1 g2 g3 => ?_
  have hj9 : ∀ j, j < 4 → zNF (zTy (100 + j) 0) = true ∧ (zTy (100 + j) 0 = .int ∨ zTy (100 + j) 0 = .boolean ∨ zTy (100 + j) 0 = .byte ∨ zTy (100 + j) 0 = .long) := by decide +kernel
  obtain ⟨hnf, hprim⟩ := hj9 j hj
  have hRA := (zK_arr hK.1 (j := j) (by omega)).2
  rw [hty] at g1
  have hcA : cA = D.1 (100 + j) := by
    have hRA2 : s.vm.findClass ("[" ++ (zTy (100 + j) 0).toString) = some (D.1 (100 + j)) := by
      rcases hprim with e9 | e9 | e9 | e9 <;> (rw [e9] at hRA ⊢; exact hRA)
    exact Option.some.inj (g1.symm.trans hRA2)
  subst hcA
  rw [hcl, hty]
  generalize hH1 : H.push ({ cls := D.1 (100 + j), slots := Array.replicate N (defaultValue (zTy (100 + j) 0)), vm := .none } : Cell) = H1
  have z1 : H1.size = H.size + 1 := by rw [← hH1, Array.size_push]
  have e1 : H1[H.size]? = some (arrV (D.1 (100 + j)) N (fun _ => defaultValue (zTy (100 + j) 0))) := by rw [← hH1, Array.getElem?_push_size, ← arrV_new]
  have o1 : ∀ q : Nat, q < H.size → H1[q]? = H[q]? := fun q hq => by rw [← hH1, Array.getElem?_push, if_neg (Nat.ne_of_lt hq)]
  obtain ⟨hS1, hρ⟩ := hS.tl.new (kd := 100 + j) (N := N) hA ha hn z1 o1 (fun ρ' hρ' => Or.inr (Or.inl ⟨j, rfl, by omega, by
    rw [hρ', e1]
    congr 1
    apply arrV_congr
    intro k2 hk2
    rw [gI_newC, gP_newC, if_pos rfl, if_pos rfl]
    exact zNF_def hnf⟩))
  have h9 := kk _ ls H1 locs (zl_has hl (zPr_move hS.2.2.1 hρ)) hS1
  have e9 : (zR (some a) :: st).map (zVal (fun b => if b = a then H.size else ρ b)) = .ref H.size :: st.map (zVal ρ) := by
    rw [List.map_cons, zMap_move hS.tl.2.1 hρ, zVal_R, if_pos rfl]
  rw [e9] at h9
  exact h9
/-- anewarray: kind 100 + j, of objects -/
theorem zs_newq {j N idx : Nat} {x : Int} {C : String} (a : zNm) (hΓ : Ctx Γ l9 cc own nm nL ret Q X d mc ms) (hd : decode cc pc = .ok (.anewarray idx, 3)) (hp : pc + 3 = pc') (hj : j < 9) (hC : zTy (100 + j) 0 = .object C) (hC9 : C ∈ ["java/lang/Object", "GrassPark$Ground", "GrassPark$Habit"]) (hcl : Cond.classLink own idx C ∈ lw_all) (hx9 : x = (N : Int)) (hN : N ≤ 100000000) (ha : gT h a = none) (hn : 0 ≤ a.1) (hk : k + 1 ≤ mc) (hs : n + N ≤ ms)
    (kk : SS Γ pc' L (zR (some a) :: st) (newC h a (100 + j) N) (k + 1) (n + N)) : SS Γ pc L (zI x :: st) h k n := by
  obtain ⟨p, l, e, R, s, m, args, below, meth, c, A, D, Q0, X0, mc0, ms0, ρ0, h0⟩ := Γ
  obtain ⟨hx, hb, hml, hret, hlk, hown, hts, hA, hK, hnm, rfl, rfl, rfl, rfl, rfl, rfl⟩ := hΓ
  subst hp; subst hx9
  intro ρ ls H locs hl hS
  have w : inI (N : Int) := hS.hd
  have hclp : (iO (N : Int)).toNatClampNeg = N := by rw [iO_clamp (Int.natCast_nonneg N) w]; rfl
  refine W.anew hx hb hown (hts _ hcl) (va_AO.use (hK.2.2.2.2.1 C hC9)) rfl hd rfl (fun z => by have := (iO_lt0 w).mp z; omega) (by rw [hclp]; omega) hk (by rw [hclp]; exact hs) fun cA kA comp f1 f2 f3 f4 => ?_
  have hRA := (zK_arr hK.1 hj).2
  rw [hC] at hRA
  obtain ⟨kA2, comp2, k1, k2, k3, k4⟩ := hRA
  have hcA : cA = D.1 (100 + j) := Option.some.inj (f1.symm.trans k4)
  subst hcA
  rw [hclp]
  generalize hH1 : H.push ({ cls := D.1 (100 + j), slots := Array.replicate N .null, vm := .none } : Cell) = H1
  have z1 : H1.size = H.size + 1 := by rw [← hH1, Array.size_push]
  have e1 : H1[H.size]? = some (arrV (D.1 (100 + j)) N (fun _ => .null)) := by rw [← hH1, Array.getElem?_push_size, ← arrV_new]
  have o1 : ∀ q : Nat, q < H.size → H1[q]? = H[q]? := fun q hq => by rw [← hH1, Array.getElem?_push, if_neg (Nat.ne_of_lt hq)]
  obtain ⟨hS1, hρ⟩ := hS.tl.new (kd := 100 + j) (N := N) hA ha hn z1 o1 (fun ρ' hρ' => Or.inr (Or.inl ⟨j, rfl, hj, by
    rw [hρ', e1]
    congr 1
    apply arrV_congr
    intro k2 hk2
    rw [gI_newC, gP_newC, if_pos rfl, if_pos rfl, hC]
    rfl⟩))
  have h9 := kk _ ls H1 locs (zl_has hl (zPr_move hS.2.2.1 hρ)) hS1
  have e9 : (zR (some a) :: st).map (zVal (fun b => if b = a then H.size else ρ b)) = .ref H.size :: st.map (zVal ρ) := by
    rw [List.map_cons, zMap_move hS.tl.2.1 hρ, zVal_R, if_pos rfl]
  rw [e9] at h9
  exact h9
/-- aastore of an object of the array's own class, or into Object[] -/
theorem zs_aast {a b : zNm} {j N kb Nb : Nat} {i : Int} {r : vw_C} {C : String} (hΓ : Ctx Γ l9 cc own nm nL ret Q X d mc ms) (hd : decode cc pc = .ok (.aastore, 1)) (hp : pc + 1 = pc') (hj : j < 9) (hC : zTy (100 + j) 0 = .object C) (ha : gT h a = some (100 + j, N)) (hn0 : 0 ≤ a.1) (h0 : 0 ≤ i) (h1 : i < N) (hbk : gT h b = some (kb, Nb)) (hr : zCl[kb]? = some r) (hcast : C = r.1 ∨ Cond.castable r.1 C ∈ zNw)
    (kk : SS Γ pc' L st (setP h a i (some b)) k n) : SS Γ pc L (zR (some b) :: zI i :: zR (some a) :: st) h k n := by
  obtain ⟨p, l, e, R, s, m, args, below, meth, c, A, D, Q0, X0, mc0, ms0, ρ0, h9⟩ := Γ
  obtain ⟨hx, hb, hml, hret, hlk, hown, hts, hA, hK, -⟩ := hΓ
  subst hp
  intro ρ ls H locs hl hS
  obtain ⟨i, rfl⟩ := Int.eq_ofNat_of_zero_le h0
  have hc := hS.1.1.arr hj ha
  have w : inI (i : Int) := hS.tl.hd
  obtain ⟨⟨cellV, g1, g2, g3, -⟩, -⟩ := hS.1.1.obj hbk hr
  have hcls := (hK.1.1 kb r hr).2
  obtain ⟨kC, hkC, -⟩ := hcls.2
  have hRA := (zK_arr hK.1 hj).2
  rw [hC] at hRA
  obtain ⟨kA, comp, k1, k2, k3, k4⟩ := hRA
  have has : s.vm.assignable cellV.cls comp = true ∧ ∃ kcomp, s.vm.classes[comp]? = some kcomp := by
    refine ⟨?_, ?_⟩
    · rcases hcast with e1 | e1
      · rw [e1] at k3
        have : comp = D.1 kb := Option.some.inj (k3.symm.trans hcls.1)
        rw [g2, this]
        exact va_assign hcls
      · obtain ⟨c0, t0, f1, f2, f3⟩ := Cond.castable_spec (va_Nw.use (A := args) rfl (hK.2.1 _ e1))
        cases hcls.1.symm.trans f1
        cases k3.symm.trans f2
        rw [g2]
        exact f3
    · obtain ⟨kc, hkc, -⟩ := Vm.findClass_spec k3
      exact ⟨kc, hkc⟩
  obtain ⟨has1, kcomp, hkcomp⟩ := has
  have hcat : zCat (zTy (100 + j) 0) = 2 := by rw [hC]; rfl
  refine W.aast (t := .object C) hx hb hc (fun q z => by cases z) (fun z => by cases z) k1 k2 rfl hkcomp ⟨fun z => by have := (iO_lt0 w).mp z; omega, by rw [arrV_size, iO_clamp h0 w]; omega⟩ g1 (fun q z => by rw [g3] at z; cases z) (by rw [g2]; exact hkC) has1 rfl rfl hd fun H' e1 z o => ?_
  rw [iO_clamp h0 w, Int.toNat_natCast] at e1 ⊢
  exact kk ρ ls H' _ hl (zst_arr (h' := setP h a i (some b)) (j := j) (i := i) hS.tl.tl.tl hj ha hn0 e1 z o (fun _ => rfl) (fun _ _ _ => rfl) (fun b q hb => setP_ne b q hb) (fun q hq => ⟨rfl, by rw [gP_setP, if_neg (fun z => hq (Int.ofNat.inj z.2))]⟩) (by rw [zEnc_r hcat, gP_setP, if_pos ⟨rfl, rfl⟩]; rfl) (hS.1.2.2.1.setP ha h0 h1 (fun x hx => by cases hx; rw [hbk]; exact fun z => by cases z)) (fun y hy => hy.setP))
theorem zs_aastN {a : zNm} {j N : Nat} {i : Int} {C : String} (hΓ : Ctx Γ l9 cc own nm nL ret Q X d mc ms) (hd : decode cc pc = .ok (.aastore, 1)) (hp : pc + 1 = pc') (hj : j < 9) (hC : zTy (100 + j) 0 = .object C) (ha : gT h a = some (100 + j, N)) (hn0 : 0 ≤ a.1) (h0 : 0 ≤ i) (h1 : i < N)
    (kk : SS Γ pc' L st (setP h a i none) k n) : SS Γ pc L (zR none :: zI i :: zR (some a) :: st) h k n := by
  obtain ⟨p, l, e, R, s, m, args, below, meth, c, A, D, Q0, X0, mc0, ms0, ρ0, h9⟩ := Γ
  obtain ⟨hx, hb, hml, hret, hlk, hown, hts, hA, hK, -⟩ := hΓ
  subst hp
  intro ρ ls H locs hl hS
  obtain ⟨i, rfl⟩ := Int.eq_ofNat_of_zero_le h0
  have hc := hS.1.1.arr hj ha
  have w : inI (i : Int) := hS.tl.hd
  have hcat : zCat (zTy (100 + j) 0) = 2 := by rw [hC]; rfl
  have hA9 := (zK_arr hK.1 hj).1
  refine va_WaastN (C := C) hx hb hc (by rw [← hC]; exact hA9 _ _) (fun z => by cases z) (by rw [arrV_size]; exact zIdx h0 h1 w) rfl rfl hd fun H' e1 z o => ?_
  rw [iO_clamp h0 w, Int.toNat_natCast] at e1 ⊢
  exact kk ρ ls H' _ hl (zst_arr (h' := setP h a i none) (j := j) (i := i) hS.tl.tl.tl hj ha hn0 e1 z o (fun _ => rfl) (fun _ _ _ => rfl) (fun b q hb => setP_ne b q hb) (fun q hq => ⟨rfl, by rw [gP_setP, if_neg (fun z => hq (Int.ofNat.inj z.2))]⟩) (by rw [zEnc_r hcat, gP_setP, if_pos ⟨rfl, rfl⟩]; rfl) (hS.1.2.2.1.setP ha h0 h1 (fun x hx => by cases hx)) (fun y hy => hy.setP))
/-- getstatic of a known static -/
theorem zs_gets {C fn fd ref : String} {v : zV} {idx : Nat} (hΓ : Ctx Γ l9 cc own nm nL ret Q X d mc ms) (hd : decode cc pc = .ok (.getstatic idx, 3)) (hp : pc + 3 = pc') (hv : (C, fn, fd, v) ∈ zSts) (hl9 : Cond.fieldLink own idx C fn fd ∈ lw_all ∨ ∃ host, Cond.fieldLinkNest own idx C fn fd host ∈ zNw) (kk : SS Γ pc' L (v :: st) h k n) : SS Γ pc L st h k n := by
  obtain ⟨p, l, e, R, s, m, args, below, meth, c, A, D, Q0, X0, mc0, ms0, ρ0, h9⟩ := Γ
  obtain ⟨hx, hb, hml, hret, hlk, hown, hts, hA, hK, -⟩ := hΓ
  subst hp
  intro ρ ls H locs hl hS
  obtain ⟨hZ, hwf⟩ := hK.2.2.1 _ hv
  have e1 : zVal ρ v = zVal ρ0 v := zVal_move hwf hS.1.2.2.2.1.2
  have h9 := kk ρ ls H locs hl (hS.cons (hwf.keep hS.1.2.2.2.1.1))
  rw [List.map_cons, e1] at h9
  rcases hl9 with q | ⟨host, q⟩
  · exact va_gets hx hb hZ hS.va hown (hts _ q) (fun _ z => z) hd h9
  · exact va_getsN hx hb hZ hS.va hown (va_Nw.use rfl (hK.2.1 _ q)) (fun _ z => z) hd h9
/-- checkcast to the object's own class; of null -/
theorem zs_cast {a : zNm} {kd N idx : Nat} {r : vw_C} (hΓ : Ctx Γ l9 cc own nm nL ret Q X d mc ms) (hd : decode cc pc = .ok (.checkcast idx, 3)) (hp : pc + 3 = pc') (hr : zCl[kd]? = some r) (hcl : Cond.classLink own idx r.1 ∈ lw_all) (ha : gT h a = some (kd, N)) (kk : SS Γ pc' L (zR (some a) :: st) h k n) : SS Γ pc L (zR (some a) :: st) h k n := by
  obtain ⟨p, l, e, R, s, m, args, below, meth, c, A, D, Q0, X0, mc0, ms0, ρ0, h9⟩ := Γ
  obtain ⟨hx, hb, hml, hret, hlk, hown, hts, hA, hK, -⟩ := hΓ
  subst hp
  intro ρ ls H locs hl hS
  obtain ⟨⟨cell, g1, g2, g3, -⟩, -⟩ := hS.1.1.obj ha hr
  have hcls := (hK.1.1 kd r hr).2
  exact va_castS hx hb hown (hts _ hcl) hcls ⟨cell, g1, by rw [g3]; rfl, by rw [g2]; exact hcls.1⟩ hd (kk ρ ls H locs hl hS)
theorem zs_castN {idx : Nat} (hΓ : Ctx Γ l9 cc own nm nL ret Q X d mc ms) (hd : decode cc pc = .ok (.checkcast idx, 3)) (hp : pc + 3 = pc') (kk : SS Γ pc' L (zR none :: st) h k n) : SS Γ pc L (zR none :: st) h k n := by
  obtain ⟨p, l, e, R, s, m, args, below, meth, c, A, D, Q0, X0, mc0, ms0, ρ0, h9⟩ := Γ
  obtain ⟨hx, hb, -⟩ := hΓ
  subst hp
  intro ρ ls H locs hl hS
  exact lv_castN hx hb hd (kk ρ ls H locs hl hS)
end ZN
