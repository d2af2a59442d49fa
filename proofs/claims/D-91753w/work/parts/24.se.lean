/-! THE NAMED HEAP, part E: fields, arrays, new cells -/
set_option maxRecDepth 100000
/-- a heap cell of a name is written: the rest stays -/
theorem zRep.put {D : va_G} {ρ : zNm → Nat} {h h' : zH} {H H' : Heap} {a : zNm} (hR : zRep D ρ h H) (hI : zInj ρ h) (hT : ∀ b, gT h' b = gT h b) (hi : ∀ b k, b ≠ a → gI h' b k = gI h b k) (hp : ∀ b k, b ≠ a → gP h' b k = gP h b k) (ha0 : gT h a ≠ none)
    (z : H'.size = H.size) (o : ∀ q : Nat, q ≠ ρ a → H'[q]? = H[q]?) (ha : ∀ kd N, gT h a = some (kd, N) → zAt1 D ρ h' H' a kd N) : zRep D ρ h' H' := by
  intro b kd N hb
  rw [hT] at hb
  by_cases e : b = a
  · subst e
    exact ha kd N hb
  · have hne : ρ b ≠ ρ a := fun q => e (hI b a (by rw [hb]; exact fun z => by cases z) ha0 q)
    have hc := o (ρ b) hne
    rcases hR b kd N hb with ⟨q, h1, h2, h3⟩ | ⟨j, h1, h2, h3⟩ | ⟨h1, h2⟩
    · refine Or.inl ⟨q, h1, h2, ?_⟩
      have e2 : (fun k : Nat => zEnc ρ (zTy kd k) (gI h' b k) (gP h' b k)) = fun k : Nat => zEnc ρ (zTy kd k) (gI h b k) (gP h b k) := by
        funext k
        rw [hi b k e, hp b k e]
      rw [e2]
      exact h3.kept hc
    · refine Or.inr (Or.inl ⟨j, h1, h2, ?_⟩)
      have e2 : (fun k : Nat => zEnc ρ (zTy kd 0) (gI h' b k) (gP h' b k)) = fun k : Nat => zEnc ρ (zTy kd 0) (gI h b k) (gP h b k) := by
        funext k
        rw [hi b k e, hp b k e]
      rw [e2, hc]
      exact h3
    · exact Or.inr (Or.inr ⟨h1, by rw [z]; exact h2⟩)
theorem zEnd.put {D : va_G} {A : Nat → Prop} {ρ0 ρ : zNm → Nat} {h0 h h' : zH} {H0 H H' : Heap} {a : zNm} (hE : zEnd D A ρ0 h0 ρ h H0 H) (hT : ∀ b, gT h' b = gT h b) (hi : ∀ b k, b ≠ a → gI h' b k = gI h b k) (hp : ∀ b k, b ≠ a → gP h' b k = gP h b k) (ha0 : gT h a ≠ none) (hn : 0 ≤ a.1)
    (z : H'.size = H.size) (o : ∀ q : Nat, q ≠ ρ a → H'[q]? = H[q]?) (ha : ∀ kd N, gT h a = some (kd, N) → zAt1 D ρ h' H' a kd N) (hw : zWfH h') : zEnd D A ρ0 h0 ρ h' H0 H' := by
  obtain ⟨e1, e2, e3, e4, e5, e6, e7⟩ := hE
  refine ⟨e1.put e2 hT hi hp ha0 z o ha, fun b c hb hc => by rw [hT] at hb hc; exact e2 b c hb hc, hw, ⟨fun b t hb => ?_, e4.2⟩, fun b hb => by rw [hT] at hb; exact e5 b hb, by rw [z]; exact e6, fun q h1 h2 => ?_⟩
  · obtain ⟨f1, f2⟩ := e4.1 b t hb
    refine ⟨by rw [hT]; exact f1, fun hneg k => ?_⟩
    have hne : b ≠ a := fun q => by rw [q] at hneg; omega
    rw [hi b k hne, hp b k hne]
    exact f2 hneg k
  · have hne : q ≠ ρ a := fun e => h2 (by rw [e]; exact e5 a ha0 hn)
    rw [o q hne]
    exact e7 q h1 h2
/-- the numbers' and references' range, after a store -/
theorem zWfH.setI {h : zH} (hw : zWfH h) {a : zNm} {i v : Int} {kd N : Nat} (ha : gT h a = some (kd, N)) (h0 : 0 ≤ i) (h1 : i < N) (hv : inI v ∨ ∀ j : Nat, (j : Int) = i → zCat (zTy kd j) = 1 ∧ inL v) : zWfH (setI h a i v) := by
  intro b kd2 N2 hb
  obtain ⟨ww, w4⟩ := hw b kd2 N2 hb
  refine ⟨fun k hk => ?_, fun k hk => ?_⟩
  · obtain ⟨w1, w2, w3⟩ := ww k hk
    refine ⟨fun c => ?_, fun c => ?_, fun c => w3 c⟩
    · rw [gI_setI]
      split
      · rename_i q
        rcases hv with hv | h2
        · exact hv
        · obtain ⟨rfl, rfl⟩ := q
          cases ha.symm.trans hb
          have := (h2 k rfl).1
          omega
      · exact w1 c
    · rw [gI_setI]
      split
      · rename_i q
        rcases hv with hv | h2
        · exact inI_L hv
        · exact (h2 k q.2).2
      · exact w2 c
  · obtain ⟨z1, z2⟩ := w4 k hk
    refine ⟨?_, z2⟩
    rw [gI_setI, if_neg]
    · exact z1
    · rintro ⟨rfl, rfl⟩
      cases ha.symm.trans hb
      omega
theorem zWfH.setP {h : zH} (hw : zWfH h) {a : zNm} {i : Int} {r : Option zNm} {kd N : Nat} (ha : gT h a = some (kd, N)) (h0 : 0 ≤ i) (h1 : i < N) (hv : ∀ b, r = some b → gT h b ≠ none) : zWfH (setP h a i r) := by
  intro b kd2 N2 hb
  obtain ⟨ww, w4⟩ := hw b kd2 N2 hb
  refine ⟨fun k hk => ?_, fun k hk => ?_⟩
  · obtain ⟨w1, w2, w3⟩ := ww k hk
    refine ⟨fun c => w1 c, fun c => w2 c, fun c x hx => ?_⟩
    rw [gP_setP] at hx
    split at hx
    · exact hv x hx
    · exact w3 c x hx
  · obtain ⟨z1, z2⟩ := w4 k hk
    refine ⟨z1, ?_⟩
    rw [gP_setP, if_neg]
    · exact z2
    · rintro ⟨rfl, rfl⟩
      cases ha.symm.trans hb
      omega
/-- a field by its place in a class's pool: class own, place idx; it is field i of kind kd -/
def zFld (own : String) (idx kd i : Nat) : Prop := ∃ (q : vw_C) (ref : String), zCl[kd]? = some q ∧ i < q.2.2 ∧ (Cond.fieldLink own idx ref (q.2.1 i).2.1 (q.2.1 i).2.2.1 ∈ lw_all ∨ ∃ host, Cond.fieldLinkNest own idx ref (q.2.1 i).2.1 (q.2.1 i).2.2.1 host ∈ zNw) ∧
  ((q.2.1 i).1 = ref ∨ Cond.sameField ref (q.2.1 i).1 (q.2.1 i).2.1 (q.2.1 i).2.2.1 ∈ lw_all)
theorem zFld.same {own : String} {idx kd i : Nat} {s : State} {args : Array Value} {q : vw_C} {ref : String} (hts : ∀ w ∈ lw_all, w.before args s = true) (h : (q.2.1 i).1 = ref ∨ Cond.sameField ref (q.2.1 i).1 (q.2.1 i).2.1 (q.2.1 i).2.2.1 ∈ lw_all) :
    ∀ x, s.fieldFound? (q.2.1 i).1 (q.2.1 i).2.1 (q.2.1 i).2.2.1 = some x → s.fieldFound? ref (q.2.1 i).2.1 (q.2.1 i).2.2.1 = some x := by
  rcases h with h | h
  · intro x hx
    rw [← h]; exact hx
  · exact fun x hx => u_same (hts _ h) x hx
section ZW
variable {p : Program} {l : Launch} {e : Env} {R : Room} {s : State} {m : MethodId} {args : Array Value} {below : List Frame} {meth : Method} {c : Code} {H : Heap} {locs : List Loc} {cells slots : Nat} {Q : State → Prop} {cc : ByteArray} {D : va_G} {ρ : zNm → Nat} {h : zH} {pc : Nat} {ls : Array Slot} {rest : List Value}
theorem zw_get {own : String} {idx kd i N : Nat} {a : zNm} (hexec : p.tables.exec = Jvm.exec) (hb : c.code = cc) (hown : s.vm.findClass own = some m.cls) (hts : ∀ w ∈ lw_all, w.before args s = true) (hnw : ∀ w ∈ zNw, va_Nw w s) (hK : va_K D zCl (zTys D) s) (hR : zRep D ρ h H) (hF : zFld own idx kd i) (ha : gT h a = some (kd, N)) (hdg : decode cc pc = .ok (.getfield idx, 3))
    (kk : W p l e R s m args below meth c H locs cells slots Q (F0 m (pc + 3) ls (zEnc ρ (zTy kd i) (gI h a i) (gP h a i) :: rest))) : W p l e R s m args below meth c H locs cells slots Q (F0 m pc ls (.ref (ρ a) :: rest)) := by
  obtain ⟨q, ref, hq, hi, hl, hs⟩ := hF
  obtain ⟨hin, -, -, -⟩ := zcl_ok kd q hq
  obtain ⟨⟨cell, q1, q2, q3, q4⟩, -⟩ := hR.obj ha hq
  obtain ⟨hS, hfc, kC, hkC, hkind⟩ := hK.1 kd q hq
  obtain ⟨cf, kf, fi, f, hfi, hsl⟩ := hS i hi
  have hsame := zFld.same (own := own) (idx := idx) (kd := kd) hts hs
  rcases hl with hl | ⟨host, hl⟩
  · exact W.getf hexec hb hown (hts _ hl) (hsame _ hfi) (u_facts hfc hkC (u_lays hts hin hi) hfi).1 q1 (by rw [q3]; exact fun z => by cases z) (by rw [hsl]; exact q4 i hi) rfl rfl hdg kk
  · exact va_Wgetf hexec hb hown (va_Nw.use rfl (hnw _ hl)) (hsame _ hfi) (u_facts hfc hkC (u_lays hts hin hi) hfi).1 q1 (by rw [q3]; exact fun z => by cases z) (by rw [hsl]; exact q4 i hi) rfl rfl hdg kk
theorem zw_put {own : String} {idx kd i N : Nat} {a : zNm} {v : Value} (hexec : p.tables.exec = Jvm.exec) (hb : c.code = cc) (hown : s.vm.findClass own = some m.cls) (hts : ∀ w ∈ lw_all, w.before args s = true) (hnw : ∀ w ∈ zNw, va_Nw w s) (hK : va_K D zCl (zTys D) s) (hR : zRep D ρ h H) (hF : zFld own idx kd i) (ha : gT h a = some (kd, N))
    (hfin : ∀ q, zCl[kd]? = some q → (q.2.1 i).2.2.2 = false ∨ ((q.2.1 i).2.2.2 = true ∧ meth.name = "<init>" ∧ (q.2.1 i).1 = own ∧ ∃ ref, Cond.fieldLink own idx ref (q.2.1 i).2.1 (q.2.1 i).2.2.1 ∈ lw_all ∧ (q.2.1 i).1 = ref)) (hn : narrow (zTy kd i) v = v) (hfit : fits (zTy kd i) v = true) (hdg : decode cc pc = .ok (.putfield idx, 3))
    (kk : ∀ (H' : Heap) (n : Nat), H'.size = H.size → (∀ q : Nat, q ≠ ρ a → H'[q]? = H[q]?) → (∀ h' : zH, (∀ j : Nat, j ≠ i → gI h' a j = gI h a j ∧ gP h' a j = gP h a j) → zEnc ρ (zTy kd i) (gI h' a i) (gP h' a i) = v → zAt1 D ρ h' H' a kd N) → W p l e R s m args below meth c H' (locs ++ [⟨ρ a, n⟩]) cells slots Q (F0 m (pc + 3) ls rest)) : W p l e R s m args below meth c H locs cells slots Q (F0 m pc ls (v :: .ref (ρ a) :: rest)) := by
  obtain ⟨q, ref, hq, hi, hl, hs⟩ := hF
  obtain ⟨hin, hty, hnm, -⟩ := zcl_ok kd q hq
  have hap := va_apart (own := own) hts hin (zTy kd) hty hnm hK hq
  obtain ⟨⟨cell, q1, q2, q3, q4⟩, hN⟩ := hR.obj ha hq
  obtain ⟨hS, hfc, kC, hkC, hkind⟩ := hK.1 kd q hq
  obtain ⟨cf, kf, fi, f, hfi, hsl⟩ := hS i hi
  have hsame := zFld.same (own := own) (idx := idx) (kd := kd) hts hs
  have hst := (u_facts hfc hkC (u_lays hts hin hi) hfi).1
  have fin : ∀ H' : Heap, H'[ρ a]? = some (cell.setSlot f.slot v) → H'.size = H.size → (∀ q : Nat, q ≠ ρ a → H'[q]? = H[q]?) → W p l e R s m args below meth c H' (locs ++ [⟨ρ a, f.slot⟩]) cells slots Q (F0 m (pc + 3) ls rest) := by
    intro H' e1 e2 e3
    refine kk H' f.slot e2 e3 fun h' hh hv => Or.inl ⟨q, hq, hN, ?_⟩
    rw [hsl] at e1
    refine t_OB.to (V := updV (fun k => zEnc ρ (zTy kd k) (gI h a k) (gP h a k)) i v) ⟨_, e1, q2, q3, t_set q4 hap hi v⟩ fun j hj => ?_
    unfold updV
    by_cases e : j = i
    · rw [if_pos e, e, hv]
    · rw [if_neg e, (hh j e).1, (hh j e).2]
  rcases hfin q hq with hf | ⟨hf, hinit, hdecl, ref2, hl2, hr2⟩
  · have hlay := hts _ (hin _ (u_in_lay hi))
    unfold u_lay at hlay
    rw [if_neg (by rw [hf]; decide)] at hlay
    have h6 := u_store hfc hkC hkind hlay hfi (hty i hi) hn hfit
    rcases hl with hl | ⟨host, hl⟩
    · exact W.putK hexec hb (f := f) ⟨hown, hts _ hl, ⟨_, _, _, hsame _ hfi⟩, hst⟩ (by rw [q2]; exact h6) q1 q3 (by rw [hsl]; exact k2_hasslot (q4 i hi)) rfl rfl hdg fin
    · exact va_WputK hexec hb (f := f) hown (va_Nw.use rfl (hnw _ hl)) (hsame _ hfi) hst (by rw [q2]; exact h6) q1 q3 (by rw [hsl]; exact k2_hasslot (q4 i hi)) rfl rfl hdg fin
  · have hlay := hts _ (hin _ (u_in_lay hi))
    unfold u_lay at hlay
    rw [if_pos hf] at hlay
    have hcf : m.cls = cf := by
      obtain ⟨_, _, c', _, _, _, -, -, hf', -, -, -, hown2, -⟩ := Cond.laysFinal_spec hlay
      have e1 : c' = cf := by have := hfi.symm.trans hf'; simp at this; exact this.1.symm
      rw [hdecl] at hown2
      rw [← e1]; exact Option.some.inj (hown.symm.trans hown2)
    have h6 := u_fits hfc hkC hkind (Or.inr hlay) hfi (hty i hi) hn hfit
    exact W.putFinK hexec hb hown (hts _ hl2) (by rw [← hr2]; exact hfi) hst hcf hinit (by rw [q2]; exact h6) q1 q3 (by rw [hsl]; exact k2_hasslot (q4 i hi)) rfl rfl hdg fin
/-- an array's cell and class -/
theorem zRep.arr {H : Heap} (hR : zRep D ρ h H) {a : zNm} {j N : Nat} (hj : j < 9) (ha : gT h a = some (100 + j, N)) : H[ρ a]? = some (arrV (D.1 (100 + j)) N (fun k => zEnc ρ (zTy (100 + j) 0) (gI h a k) (gP h a k))) := by
  rcases hR a (100 + j) N ha with ⟨q, h1, -⟩ | ⟨j', h1, h2, h3⟩ | ⟨h1, -⟩
  · have := (zcl_ok _ _ h1).2.2.2
    omega
  · exact h3
  · omega
theorem zK_arr (hK : va_K D zCl (zTys D) s) {j : Nat} (hj : j < 9) : ArrOfT s (D.1 (100 + j)) (zTy (100 + j) 0) ∧ va_RA s (D.1 (100 + j)) (zTy (100 + j) 0) := hK.2 j _ (zTys_at D hj)
theorem zIdx {x : Int} {N : Nat} (h0 : 0 ≤ x) (h1 : x < N) (w : inI x) : ¬ (iO x < 0 ∨ N ≤ (iO x).toNatClampNeg) := iO_in h0 h1 w
theorem zTy_arr (kd k : Nat) (h : 100 ≤ kd) : zTy kd k = zTy kd 0 := by
  unfold zTy
  rw [if_neg (by omega), if_neg (by omega)]
end ZW
section ZF
variable {Γ : zG} {l9 : Launch} {cc : ByteArray} {own nm : String} {nL : Nat} {ret : Option FieldType} {Q : Option zV → zH → Prop} {X : zNm → zH → Prop} {d mc ms : Nat} {pc pc' : Nat} {L : List (Option zV)} {st : List zV} {h : zH} {k n : Nat}
/-! fields: i as a numeral i9 -/
theorem zs_geti {a : zNm} {idx kd i N : Nat} {i9 : Int} (hΓ : Ctx Γ l9 cc own nm nL ret Q X d mc ms) (hd : decode cc pc = .ok (.getfield idx, 3)) (hp : pc + 3 = pc') (hF : zFld own idx kd i) (hi : (i : Int) = i9) (hc : zCat (zTy kd i) = 0) (ha : gT h a = some (kd, N)) (kk : SS Γ pc' L (zI (gI h a i9) :: st) h k n) : SS Γ pc L (zR (some a) :: st) h k n := by
  obtain ⟨p, l, e, R, s, m, args, below, meth, c, A, D, Q0, X0, mc0, ms0, ρ0, h0⟩ := Γ
  obtain ⟨hx, hb, hml, hret, hlk, hown, hts, hA, hK, -⟩ := hΓ
  subst hp; subst hi
  intro ρ ls H locs hl hS
  have hN : i < N := by
    obtain ⟨q, ref, hq, hi, -⟩ := hF
    rw [(hS.1.1.obj ha hq).2]; exact hi
  have hw := ((hS.1.2.2.1 a kd N ha).1 i hN).1 hc
  have h9 := kk ρ ls H locs hl (hS.tl.cons hw)
  refine zw_get hx hb hown hts hK.2.1 hK.1 hS.1.1 hF ha hd ?_
  rw [zEnc_i hc]
  exact h9
theorem zs_getl {a : zNm} {idx kd i N : Nat} {i9 : Int} (hΓ : Ctx Γ l9 cc own nm nL ret Q X d mc ms) (hd : decode cc pc = .ok (.getfield idx, 3)) (hp : pc + 3 = pc') (hF : zFld own idx kd i) (hi : (i : Int) = i9) (hc : zCat (zTy kd i) = 1) (ha : gT h a = some (kd, N)) (kk : SS Γ pc' L (zL (gI h a i9) :: st) h k n) : SS Γ pc L (zR (some a) :: st) h k n := by
  obtain ⟨p, l, e, R, s, m, args, below, meth, c, A, D, Q0, X0, mc0, ms0, ρ0, h0⟩ := Γ
  obtain ⟨hx, hb, hml, hret, hlk, hown, hts, hA, hK, -⟩ := hΓ
  subst hp; subst hi
  intro ρ ls H locs hl hS
  have hN : i < N := by
    obtain ⟨q, ref, hq, hi, -⟩ := hF
    rw [(hS.1.1.obj ha hq).2]; exact hi
  have hw := ((hS.1.2.2.1 a kd N ha).1 i hN).2.1 hc
  have h9 := kk ρ ls H locs hl (hS.tl.cons hw)
  refine zw_get hx hb hown hts hK.2.1 hK.1 hS.1.1 hF ha hd ?_
  rw [zEnc_l hc]
  exact h9
theorem zs_getr {a : zNm} {idx kd i N : Nat} {i9 : Int} (hΓ : Ctx Γ l9 cc own nm nL ret Q X d mc ms) (hd : decode cc pc = .ok (.getfield idx, 3)) (hp : pc + 3 = pc') (hF : zFld own idx kd i) (hi : (i : Int) = i9) (hc : zCat (zTy kd i) = 2) (ha : gT h a = some (kd, N)) (kk : SS Γ pc' L (zR (gP h a i9) :: st) h k n) : SS Γ pc L (zR (some a) :: st) h k n := by
  obtain ⟨p, l, e, R, s, m, args, below, meth, c, A, D, Q0, X0, mc0, ms0, ρ0, h0⟩ := Γ
  obtain ⟨hx, hb, hml, hret, hlk, hown, hts, hA, hK, -⟩ := hΓ
  subst hp; subst hi
  intro ρ ls H locs hl hS
  have hN : i < N := by
    obtain ⟨q, ref, hq, hi, -⟩ := hF
    rw [(hS.1.1.obj ha hq).2]; exact hi
  have hw := ((hS.1.2.2.1 a kd N ha).1 i hN).2.2 hc
  have h9 := kk ρ ls H locs hl (hS.tl.cons hw)
  refine zw_get hx hb hown hts hK.2.1 hK.1 hS.1.1 hF ha hd ?_
  rw [zEnc_r hc]
  exact h9
/-- whether the class's field i may be written here -/
def zPutOK (own nm : String) (idx kd i : Nat) : Prop := ∀ q, zCl[kd]? = some q → (q.2.1 i).2.2.2 = false ∨ ((q.2.1 i).2.2.2 = true ∧ nm = "<init>" ∧ (q.2.1 i).1 = own ∧ ∃ ref, Cond.fieldLink own idx ref (q.2.1 i).2.1 (q.2.1 i).2.2.1 ∈ lw_all ∧ (q.2.1 i).1 = ref)
theorem zs_putG {a : zNm} {idx kd i N : Nat} {v : zV} {h' : zH} (hΓ : Ctx Γ l9 cc own nm nL ret Q X d mc ms) (hd : decode cc pc = .ok (.putfield idx, 3)) (hp : pc + 3 = pc') (hF : zFld own idx kd i) (hO : zPutOK own nm idx kd i) (ha : gT h a = some (kd, N)) (hn0 : 0 ≤ a.1)
    (hn : ∀ ρ, narrow (zTy kd i) (zVal ρ v) = zVal ρ v ∧ fits (zTy kd i) (zVal ρ v) = true) (hT : ∀ b, gT h' b = gT h b) (hi : ∀ b j, b ≠ a → gI h' b j = gI h b j) (hq : ∀ b j, b ≠ a → gP h' b j = gP h b j) (hj : ∀ j : Nat, j ≠ i → gI h' a j = gI h a j ∧ gP h' a j = gP h a j)
    (he : ∀ ρ, zEnc ρ (zTy kd i) (gI h' a i) (gP h' a i) = zVal ρ v) (hw : i < N → zWfH h → zWfV h v → zWfH h') (hwV : ∀ x, zWfV h x → zWfV h' x) (kk : SS Γ pc' L st h' k n) : SS Γ pc L (v :: zR (some a) :: st) h k n := by
  obtain ⟨p, l, e, R, s, m, args, below, meth, c, A, D, Q0, X0, mc0, ms0, ρ0, h0⟩ := Γ
  obtain ⟨hx, hb, hml, hret, hlk, hown, hts, hA, hK, hnm, -⟩ := hΓ
  subst hp
  intro ρ ls H locs hl hS
  refine zw_put hx hb hown hts hK.2.1 hK.1 hS.1.1 hF ha (by rw [hnm]; exact hO) (hn ρ).1 (hn ρ).2 hd fun H' n' z o at' => ?_
  have ha0 : gT h a ≠ none := by rw [ha]; exact fun z => by cases z
  have hN : i < N := by
    obtain ⟨q, ref, hq, hi, -⟩ := hF
    rw [(hS.1.1.obj ha hq).2]; exact hi
  refine kk ρ ls H' _ hl ⟨hS.1.put hT hi hq ha0 hn0 z o (fun kd2 N2 h2 => ?_) (hw hN hS.1.2.2.1 hS.hd), fun x hx => hwV x (hS.tl.tl.2.1 x hx), fun i2 x hx => hwV x (hS.2.2.1 i2 x hx), fun z hz => ?_⟩
  · cases h2.symm.trans ha
    exact at' h' hj (he ρ)
  · rcases List.mem_append.mp hz with q | q
    · exact hS.2.2.2 z q
    · rw [List.mem_singleton.mp q]
      exact hS.1.2.2.2.2.1 a ha0 hn0
theorem zWfV.setI {a : zNm} {i v : Int} {x : zV} (w : zWfV h x) : zWfV (setI h a i v) x := by
  match x, w with
  | .inl x, w => exact w
  | .inr (.inl x), w => exact w
  | .inr (.inr r), w => exact fun b e => w b e
theorem zWfV.setP {a : zNm} {i : Int} {r : Option zNm} {x : zV} (w : zWfV h x) : zWfV (setP h a i r) x := by
  match x, w with
  | .inl x, w => exact w
  | .inr (.inl x), w => exact w
  | .inr (.inr r), w => exact fun b e => w b e
theorem setI_ne {a : zNm} {i v : Int} (b : zNm) (j : Int) (hb : b ≠ a) : gI (setI h a i v) b j = gI h b j := by rw [gI_setI, if_neg (fun z => hb z.1)]
theorem setP_ne {a : zNm} {i : Int} {r : Option zNm} (b : zNm) (j : Int) (hb : b ≠ a) : gP (setP h a i r) b j = gP h b j := by rw [gP_setP, if_neg (fun z => hb z.1)]
/-- a number into a field: all of it is kept (a boolean: 0 or 1) -/
def zKept (t : FieldType) (x : Int) : Prop := match t with
  | .int => True
  | .boolean => x = 0 ∨ x = 1
  | .byte => i8 x = x
  | _ => False
theorem zKept.cat {t : FieldType} {x : Int} (hk : zKept t x) : zCat t = 0 := by cases t <;> first | rfl | cases hk
theorem zKept.ok {t : FieldType} {x : Int} (w : inI x) (hk : zKept t x) : narrow t (.int (iO x)) = .int (iO x) ∧ fits t (.int (iO x)) = true := by
  cases t with
  | int => exact ⟨rfl, by rfl⟩
  | boolean =>
    rcases hk with rfl | rfl
    · exact ⟨by decide, by decide⟩
    · exact ⟨by decide, by decide⟩
  | byte =>
    have hk : i8 x = x := hk
    have e : (iO x).toInt8.toInt32 = iO x := by rw [iO_i2b w, hk]
    refine ⟨?_, ?_⟩
    · show Value.int (iO x).toInt8.toInt32 = _
      rw [e]
    · rw [← e]; exact pk_fb (iO x)
  | _ => cases hk
theorem zs_puti {a : zNm} {idx kd i N : Nat} {i9 x : Int} (hΓ : Ctx Γ l9 cc own nm nL ret Q X d mc ms) (hd : decode cc pc = .ok (.putfield idx, 3)) (hp : pc + 3 = pc') (hF : zFld own idx kd i) (hO : zPutOK own nm idx kd i) (hi : (i : Int) = i9) (hc : zKept (zTy kd i) x) (ha : gT h a = some (kd, N)) (hn0 : 0 ≤ a.1) (kk : SS Γ pc' L st (setI h a i9 x) k n) : SS Γ pc L (zI x :: zR (some a) :: st) h k n := by
  subst hi
  refine zs_topI fun w => ?_
  exact zs_putG (h' := setI h a i x) hΓ hd hp hF hO ha hn0 (fun ρ => hc.ok w) (fun b => rfl) (fun b j hb => setI_ne b j hb) (fun b j hb => rfl) (fun j hj => ⟨by rw [gI_setI, if_neg (fun z => hj (Int.ofNat.inj z.2))], rfl⟩) (fun ρ => by rw [zEnc_i hc.cat, gI_setI, if_pos ⟨rfl, rfl⟩]; rfl) (fun hN w1 _ => w1.setI ha (Int.natCast_nonneg i) (Int.ofNat_lt.mpr hN) (Or.inl w)) (fun y hy => hy.setI) kk
theorem zs_putl {a : zNm} {idx kd i N : Nat} {i9 x : Int} (hΓ : Ctx Γ l9 cc own nm nL ret Q X d mc ms) (hd : decode cc pc = .ok (.putfield idx, 3)) (hp : pc + 3 = pc') (hF : zFld own idx kd i) (hO : zPutOK own nm idx kd i) (hi : (i : Int) = i9) (hc : zTy kd i = .long) (ha : gT h a = some (kd, N)) (hn0 : 0 ≤ a.1) (kk : SS Γ pc' L st (setI h a i9 x) k n) : SS Γ pc L (zL x :: zR (some a) :: st) h k n := by
  subst hi
  refine zs_putG (h' := setI h a i x) hΓ hd hp hF hO ha hn0 (fun ρ => ?_) (fun b => rfl) (fun b j hb => setI_ne b j hb) (fun b j hb => rfl) (fun j hj => ⟨by rw [gI_setI, if_neg (fun z => hj (Int.ofNat.inj z.2))], rfl⟩) (fun ρ => by rw [zEnc_l (by rw [hc]; rfl), gI_setI, if_pos ⟨rfl, rfl⟩]; rfl) (fun hN w1 w2 => w1.setI ha (Int.natCast_nonneg i) (Int.ofNat_lt.mpr hN) (Or.inr fun j hj => by have := Int.ofNat.inj hj; subst this; exact ⟨by rw [hc]; rfl, w2⟩)) (fun y hy => hy.setI) kk
  rw [hc]
  exact ⟨rfl, rfl⟩
theorem zfit_ref {t : FieldType} (hc : zCat t = 2) (ρ : zNm → Nat) (r : Option zNm) : narrow t (zVal ρ (zR r)) = zVal ρ (zR r) ∧ fits t (zVal ρ (zR r)) = true := by
  cases t <;> first | (cases hc; done) | (cases r <;> exact ⟨rfl, rfl⟩)
theorem zs_putr {a : zNm} {idx kd i N : Nat} {i9 : Int} {r : Option zNm} (hΓ : Ctx Γ l9 cc own nm nL ret Q X d mc ms) (hd : decode cc pc = .ok (.putfield idx, 3)) (hp : pc + 3 = pc') (hF : zFld own idx kd i) (hO : zPutOK own nm idx kd i) (hi : (i : Int) = i9) (hc : zCat (zTy kd i) = 2) (ha : gT h a = some (kd, N)) (hn0 : 0 ≤ a.1) (kk : SS Γ pc' L st (setP h a i9 r) k n) : SS Γ pc L (zR r :: zR (some a) :: st) h k n := by
  subst hi
  exact zs_putG (h' := setP h a i r) hΓ hd hp hF hO ha hn0 (fun ρ => zfit_ref hc ρ r) (fun b => rfl) (fun b j hb => rfl) (fun b j hb => setP_ne b j hb) (fun j hj => ⟨rfl, by rw [gP_setP, if_neg (fun z => hj (Int.ofNat.inj z.2))]⟩) (fun ρ => by rw [zEnc_r hc, gP_setP, if_pos ⟨rfl, rfl⟩]; rfl) (fun hN w1 w2 => w1.setP ha (Int.natCast_nonneg i) (Int.ofNat_lt.mpr hN) w2) (fun y hy => hy.setP) kk
/-! arrays: kind 100 int, 101 boolean, 102 byte, 103 long, 104.. references -/
theorem zs_alen {a : zNm} {j N : Nat} {N9 : Int} (hΓ : Ctx Γ l9 cc own nm nL ret Q X d mc ms) (hd : decode cc pc = .ok (.arraylength, 1)) (hp : pc + 1 = pc') (hj : j < 9) (ha : gT h a = some (100 + j, N)) (hN : (N : Int) = N9) (hr : inI N9) (kk : SS Γ pc' L (zI N9 :: st) h k n) : SS Γ pc L (zR (some a) :: st) h k n := by
  obtain ⟨p, l, e, R, s, m, args, below, meth, c, A, D, Q0, X0, mc0, ms0, ρ0, h0⟩ := Γ
  obtain ⟨hx, hb, hml, hret, hlk, hown, hts, hA, hK, -⟩ := hΓ
  subst hp; subst hN
  intro ρ ls H locs hl hS
  have hc := hS.1.1.arr hj ha
  refine W.alen (n := iO N) hx hb hc ((zK_arr hK.1 hj).1 _ _) ?_ rfl rfl hd (kk ρ ls H locs hl (hS.tl.cons hr))
  rw [arrV_size]
  exact Int32.ofInt_eq_ofNat.symm
theorem zs_iald {a : zNm} {N : Nat} {i : Int} (hΓ : Ctx Γ l9 cc own nm nL ret Q X d mc ms) (hd : decode cc pc = .ok (.iaload, 1)) (hp : pc + 1 = pc') (ha : gT h a = some (100, N)) (h0 : 0 ≤ i) (h1 : i < N) (kk : SS Γ pc' L (zI (gI h a i) :: st) h k n) : SS Γ pc L (zI i :: zR (some a) :: st) h k n := by
  obtain ⟨p, l, e, R, s, m, args, below, meth, c, A, D, Q0, X0, mc0, ms0, ρ0, h9⟩ := Γ
  obtain ⟨hx, hb, hml, hret, hlk, hown, hts, hA, hK, -⟩ := hΓ
  subst hp
  intro ρ ls H locs hl hS
  obtain ⟨j, rfl⟩ := Int.eq_ofNat_of_zero_le h0
  have hc := hS.1.1.arr (j := 0) (by decide) ha
  have hw := ((hS.1.2.2.1 a 100 N ha).1 j (by omega)).1 rfl
  have w : inI (j : Int) := hS.hd
  refine W.iald (v := .int (iO (gI h a j))) hx hb hc ((zK_arr hK.1 (j := 0) (by decide)).1 _ _) (fun z => by cases z) (by rw [arrV_size]; exact zIdx h0 h1 w) ?_ rfl rfl hd (kk ρ ls H locs hl (hS.tl.tl.cons hw))
  rw [iO_clamp h0 w, Int.toNat_natCast, arrV_read _ _ (by omega)]
  rfl
theorem zs_zald {a : zNm} {N : Nat} {i : Int} (hΓ : Ctx Γ l9 cc own nm nL ret Q X d mc ms) (hd : decode cc pc = .ok (.baload, 1)) (hp : pc + 1 = pc') (ha : gT h a = some (101, N)) (h0 : 0 ≤ i) (h1 : i < N) (kk : SS Γ pc' L (zI (gI h a i) :: st) h k n) : SS Γ pc L (zI i :: zR (some a) :: st) h k n := by
  obtain ⟨p, l, e, R, s, m, args, below, meth, c, A, D, Q0, X0, mc0, ms0, ρ0, h9⟩ := Γ
  obtain ⟨hx, hb, hml, hret, hlk, hown, hts, hA, hK, -⟩ := hΓ
  subst hp
  intro ρ ls H locs hl hS
  obtain ⟨j, rfl⟩ := Int.eq_ofNat_of_zero_le h0
  have hc := hS.1.1.arr (j := 1) (by decide) ha
  have hw := ((hS.1.2.2.1 a 101 N ha).1 j (by omega)).1 rfl
  have w : inI (j : Int) := hS.hd
  refine W.zald (v := .int (iO (gI h a j))) hx hb hc ((zK_arr hK.1 (j := 1) (by decide)).1 _ _) (fun z => by cases z) (by rw [arrV_size]; exact zIdx h0 h1 w) ?_ rfl rfl hd (kk ρ ls H locs hl (hS.tl.tl.cons hw))
  rw [iO_clamp h0 w, Int.toNat_natCast, arrV_read _ _ (by omega)]
  rfl
theorem zs_bald {a : zNm} {N : Nat} {i : Int} (hΓ : Ctx Γ l9 cc own nm nL ret Q X d mc ms) (hd : decode cc pc = .ok (.baload, 1)) (hp : pc + 1 = pc') (ha : gT h a = some (102, N)) (h0 : 0 ≤ i) (h1 : i < N) (kk : SS Γ pc' L (zI (gI h a i) :: st) h k n) : SS Γ pc L (zI i :: zR (some a) :: st) h k n := by
  obtain ⟨p, l, e, R, s, m, args, below, meth, c, A, D, Q0, X0, mc0, ms0, ρ0, h9⟩ := Γ
  obtain ⟨hx, hb, hml, hret, hlk, hown, hts, hA, hK, -⟩ := hΓ
  subst hp
  intro ρ ls H locs hl hS
  obtain ⟨j, rfl⟩ := Int.eq_ofNat_of_zero_le h0
  have hc := hS.1.1.arr (j := 2) (by decide) ha
  have hw := ((hS.1.2.2.1 a 102 N ha).1 j (by omega)).1 rfl
  have w : inI (j : Int) := hS.hd
  refine W.bald (v := .int (iO (gI h a j))) hx hb hc ((zK_arr hK.1 (j := 2) (by decide)).1 _ _) (fun z => by cases z) (by rw [arrV_size]; exact zIdx h0 h1 w) ?_ rfl rfl hd (kk ρ ls H locs hl (hS.tl.tl.cons hw))
  rw [iO_clamp h0 w, Int.toNat_natCast, arrV_read _ _ (by omega)]
  rfl
theorem zs_lald {a : zNm} {N : Nat} {i : Int} (hΓ : Ctx Γ l9 cc own nm nL ret Q X d mc ms) (hd : decode cc pc = .ok (.laload, 1)) (hp : pc + 1 = pc') (ha : gT h a = some (103, N)) (h0 : 0 ≤ i) (h1 : i < N) (kk : SS Γ pc' L (zL (gI h a i) :: st) h k n) : SS Γ pc L (zI i :: zR (some a) :: st) h k n := by
  obtain ⟨p, l, e, R, s, m, args, below, meth, c, A, D, Q0, X0, mc0, ms0, ρ0, h9⟩ := Γ
  obtain ⟨hx, hb, hml, hret, hlk, hown, hts, hA, hK, -⟩ := hΓ
  subst hp
  intro ρ ls H locs hl hS
  obtain ⟨j, rfl⟩ := Int.eq_ofNat_of_zero_le h0
  have hc := hS.1.1.arr (j := 3) (by decide) ha
  have hw := ((hS.1.2.2.1 a 103 N ha).1 j (by omega)).2.1 rfl
  have w : inI (j : Int) := hS.hd
  refine W.lald (v := .long (lO (gI h a j))) hx hb hc ((zK_arr hK.1 (j := 3) (by decide)).1 _ _) (fun z => by cases z) (by rw [arrV_size]; exact zIdx h0 h1 w) ?_ rfl rfl hd (kk ρ ls H locs hl (hS.tl.tl.cons hw))
  rw [iO_clamp h0 w, Int.toNat_natCast, arrV_read _ _ (by omega)]
  rfl
theorem zs_aald {a : zNm} {j N : Nat} {i : Int} (hΓ : Ctx Γ l9 cc own nm nL ret Q X d mc ms) (hd : decode cc pc = .ok (.aaload, 1)) (hp : pc + 1 = pc') (hj : j < 9) (hj4 : 4 ≤ j) (ha : gT h a = some (100 + j, N)) (h0 : 0 ≤ i) (h1 : i < N) (kk : SS Γ pc' L (zR (gP h a i) :: st) h k n) : SS Γ pc L (zI i :: zR (some a) :: st) h k n := by
  obtain ⟨p, l, e, R, s, m, args, below, meth, c, A, D, Q0, X0, mc0, ms0, ρ0, h9⟩ := Γ
  obtain ⟨hx, hb, hml, hret, hlk, hown, hts, hA, hK, -⟩ := hΓ
  subst hp
  intro ρ ls H locs hl hS
  obtain ⟨i, rfl⟩ := Int.eq_ofNat_of_zero_le h0
  have hc := hS.1.1.arr hj ha
  have hcat : zCat (zTy (100 + j) 0) = 2 ∧ (zTy (100 + j) 0).isReference = true := by
    have : ∀ j, j < 9 → 4 ≤ j → zCat (zTy (100 + j) 0) = 2 ∧ (zTy (100 + j) 0).isReference = true := by decide +kernel
    exact this j hj hj4
  have hw := ((hS.1.2.2.1 a (100 + j) N ha).1 i (by omega)).2.2 (by rw [zTy_arr _ i (by omega)]; exact hcat.1)
  have w : inI (i : Int) := hS.hd
  refine W.aald (v := va_rf ((gP h a i).map ρ)) hx hb hc ((zK_arr hK.1 hj).1 _ _) hcat.2 (fun z => by cases z) (by rw [arrV_size]; exact zIdx h0 h1 w) ?_ rfl rfl hd (kk ρ ls H locs hl (hS.tl.tl.cons hw))
  rw [iO_clamp h0 w, Int.toNat_natCast, arrV_read _ _ (by omega), zEnc_r hcat.1]
/-- an array's cell is written: what's left to show, once -/
theorem zst_arr {D : va_G} {A : Nat → Prop} {ρ0 ρ : zNm → Nat} {h0 h' : zH} {H0 H H' : Heap} {locs : List Loc} {a : zNm} {j N : Nat} {i : Nat} {v : Value} (hS : zSt D A ρ0 h0 ρ L st h H0 H locs) (hj : j < 9) (ha : gT h a = some (100 + j, N)) (hn0 : 0 ≤ a.1)
    (e1 : H'[ρ a]? = some ((arrV (D.1 (100 + j)) N (fun k => zEnc ρ (zTy (100 + j) 0) (gI h a k) (gP h a k))).setSlot i v)) (z : H'.size = H.size) (o : ∀ q : Nat, q ≠ ρ a → H'[q]? = H[q]?)
    (hT : ∀ b, gT h' b = gT h b) (hi : ∀ b j, b ≠ a → gI h' b j = gI h b j) (hq : ∀ b j, b ≠ a → gP h' b j = gP h b j) (hk : ∀ q : Nat, q ≠ i → gI h' a q = gI h a q ∧ gP h' a q = gP h a q) (he : zEnc ρ (zTy (100 + j) 0) (gI h' a i) (gP h' a i) = v) (hw : zWfH h') (hwV : ∀ x, zWfV h x → zWfV h' x) : zSt D A ρ0 h0 ρ L st h' H0 H' (locs ++ [⟨ρ a, i⟩]) := by
  have ha0 : gT h a ≠ none := by rw [ha]; exact fun z => by cases z
  refine ⟨hS.1.put hT hi hq ha0 hn0 z o (fun kd N2 h2 => ?_) hw, fun x hx => hwV x (hS.2.1 x hx), fun i2 x hx => hwV x (hS.2.2.1 i2 x hx), fun z hz => ?_⟩
  · cases h2.symm.trans ha
    refine Or.inr (Or.inl ⟨j, rfl, hj, ?_⟩)
    rw [e1, arrV_store]
    congr 2
    funext q
    unfold updV
    by_cases e : q = i
    · rw [if_pos e, e, he]
    · rw [if_neg e, (hk q e).1, (hk q e).2]
  · rcases List.mem_append.mp hz with q | q
    · exact hS.2.2.2 z q
    · rw [List.mem_singleton.mp q]
      exact hS.1.2.2.2.2.1 a ha0 hn0
theorem zs_iast {a : zNm} {N : Nat} {i x : Int} (hΓ : Ctx Γ l9 cc own nm nL ret Q X d mc ms) (hd : decode cc pc = .ok (.iastore, 1)) (hp : pc + 1 = pc') (ha : gT h a = some (100, N)) (hn0 : 0 ≤ a.1) (h0 : 0 ≤ i) (h1 : i < N) (kk : SS Γ pc' L st (setI h a i x) k n) : SS Γ pc L (zI x :: zI i :: zR (some a) :: st) h k n := by
  obtain ⟨p, l, e, R, s, m, args, below, meth, c, A, D, Q0, X0, mc0, ms0, ρ0, h9⟩ := Γ
  obtain ⟨hx, hb, hml, hret, hlk, hown, hts, hA, hK, -⟩ := hΓ
  subst hp
  intro ρ ls H locs hl hS
  obtain ⟨j, rfl⟩ := Int.eq_ofNat_of_zero_le h0
  have hc := hS.1.1.arr (j := 0) (by decide) ha
  have w : inI (j : Int) := hS.tl.hd
  have wx : inI x := hS.hd
  refine W.iast hx hb hc ((zK_arr hK.1 (j := 0) (by decide)).1 _ _) (fun z => by cases z) (by rw [arrV_size]; exact zIdx h0 h1 w) rfl rfl hd fun H' e1 z o => ?_
  rw [iO_clamp h0 w, Int.toNat_natCast] at e1 ⊢
  exact kk ρ ls H' _ hl (zst_arr (h' := setI h a j x) (j := 0) (i := j) hS.tl.tl.tl (by decide) ha hn0 e1 z o (fun _ => rfl) (fun b q hb => setI_ne b q hb) (fun _ _ _ => rfl) (fun q hq => ⟨by rw [gI_setI, if_neg (fun z => hq (Int.ofNat.inj z.2))], rfl⟩) (by rw [zEnc_i rfl, gI_setI, if_pos ⟨rfl, rfl⟩]) (hS.1.2.2.1.setI ha h0 h1 (Or.inl wx)) (fun y hy => hy.setI))
theorem zs_bast {a : zNm} {N : Nat} {i x : Int} (hΓ : Ctx Γ l9 cc own nm nL ret Q X d mc ms) (hd : decode cc pc = .ok (.bastore, 1)) (hp : pc + 1 = pc') (ha : gT h a = some (102, N)) (hn0 : 0 ≤ a.1) (h0 : 0 ≤ i) (h1 : i < N) (kk : SS Γ pc' L st (setI h a i (i8 x)) k n) : SS Γ pc L (zI x :: zI i :: zR (some a) :: st) h k n := by
  obtain ⟨p, l, e, R, s, m, args, below, meth, c, A, D, Q0, X0, mc0, ms0, ρ0, h9⟩ := Γ
  obtain ⟨hx, hb, hml, hret, hlk, hown, hts, hA, hK, -⟩ := hΓ
  subst hp
  intro ρ ls H locs hl hS
  obtain ⟨j, rfl⟩ := Int.eq_ofNat_of_zero_le h0
  have hc := hS.1.1.arr (j := 2) (by decide) ha
  have w : inI (j : Int) := hS.tl.hd
  have wx : inI x := hS.hd
  refine W.bast hx hb hc ((zK_arr hK.1 (j := 2) (by decide)).1 _ _) (fun z => by cases z) (by rw [arrV_size]; exact zIdx h0 h1 w) rfl rfl hd fun H' e1 z o => ?_
  rw [iO_clamp h0 w, Int.toNat_natCast] at e1 ⊢
  have e9 : narrow .byte (.int (iO x)) = .int (iO (i8 x)) := by
    show Value.int (iO x).toInt8.toInt32 = _
    rw [iO_i2b wx]
  rw [e9] at e1
  exact kk ρ ls H' _ hl (zst_arr (h' := setI h a j (i8 x)) (j := 2) (i := j) hS.tl.tl.tl (by decide) ha hn0 e1 z o (fun _ => rfl) (fun b q hb => setI_ne b q hb) (fun _ _ _ => rfl) (fun q hq => ⟨by rw [gI_setI, if_neg (fun z => hq (Int.ofNat.inj z.2))], rfl⟩) (by rw [zEnc_i rfl, gI_setI, if_pos ⟨rfl, rfl⟩]) (hS.1.2.2.1.setI ha h0 h1 (Or.inl (inI_i8 x))) (fun y hy => hy.setI))
theorem zs_zast {a : zNm} {N : Nat} {i x : Int} (hΓ : Ctx Γ l9 cc own nm nL ret Q X d mc ms) (hd : decode cc pc = .ok (.bastore, 1)) (hp : pc + 1 = pc') (ha : gT h a = some (101, N)) (hn0 : 0 ≤ a.1) (h0 : 0 ≤ i) (h1 : i < N) (hz : x = 0 ∨ x = 1) (kk : SS Γ pc' L st (setI h a i x) k n) : SS Γ pc L (zI x :: zI i :: zR (some a) :: st) h k n := by
  obtain ⟨p, l, e, R, s, m, args, below, meth, c, A, D, Q0, X0, mc0, ms0, ρ0, h9⟩ := Γ
  obtain ⟨hx, hb, hml, hret, hlk, hown, hts, hA, hK, -⟩ := hΓ
  subst hp
  intro ρ ls H locs hl hS
  obtain ⟨j, rfl⟩ := Int.eq_ofNat_of_zero_le h0
  have hc := hS.1.1.arr (j := 1) (by decide) ha
  have w : inI (j : Int) := hS.tl.hd
  have wx : inI x := hS.hd
  refine W.zast hx hb hc ((zK_arr hK.1 (j := 1) (by decide)).1 _ _) (fun z => by cases z) (by rw [arrV_size]; exact zIdx h0 h1 w) rfl rfl hd fun H' e1 z o => ?_
  rw [iO_clamp h0 w, Int.toNat_natCast] at e1 ⊢
  have e9 : narrow .boolean (.int (iO x)) = .int (iO x) := by
    rcases hz with rfl | rfl <;> decide
  rw [e9] at e1
  exact kk ρ ls H' _ hl (zst_arr (h' := setI h a j x) (j := 1) (i := j) hS.tl.tl.tl (by decide) ha hn0 e1 z o (fun _ => rfl) (fun b q hb => setI_ne b q hb) (fun _ _ _ => rfl) (fun q hq => ⟨by rw [gI_setI, if_neg (fun z => hq (Int.ofNat.inj z.2))], rfl⟩) (by rw [zEnc_i rfl, gI_setI, if_pos ⟨rfl, rfl⟩]) (hS.1.2.2.1.setI ha h0 h1 (Or.inl wx)) (fun y hy => hy.setI))
theorem zs_last {a : zNm} {N : Nat} {i x : Int} (hΓ : Ctx Γ l9 cc own nm nL ret Q X d mc ms) (hd : decode cc pc = .ok (.lastore, 1)) (hp : pc + 1 = pc') (ha : gT h a = some (103, N)) (hn0 : 0 ≤ a.1) (h0 : 0 ≤ i) (h1 : i < N) (kk : SS Γ pc' L st (setI h a i x) k n) : SS Γ pc L (zL x :: zI i :: zR (some a) :: st) h k n := by
  obtain ⟨p, l, e, R, s, m, args, below, meth, c, A, D, Q0, X0, mc0, ms0, ρ0, h9⟩ := Γ
  obtain ⟨hx, hb, hml, hret, hlk, hown, hts, hA, hK, -⟩ := hΓ
  subst hp
  intro ρ ls H locs hl hS
  obtain ⟨j, rfl⟩ := Int.eq_ofNat_of_zero_le h0
  have hc := hS.1.1.arr (j := 3) (by decide) ha
  have w : inI (j : Int) := hS.tl.hd
  have wx : inL x := hS.hd
  refine W.last hx hb hc ((zK_arr hK.1 (j := 3) (by decide)).1 _ _) (fun z => by cases z) (by rw [arrV_size]; exact zIdx h0 h1 w) rfl rfl hd fun H' e1 z o => ?_
  rw [iO_clamp h0 w, Int.toNat_natCast] at e1 ⊢
  exact kk ρ ls H' _ hl (zst_arr (h' := setI h a j x) (j := 3) (i := j) hS.tl.tl.tl (by decide) ha hn0 e1 z o (fun _ => rfl) (fun b q hb => setI_ne b q hb) (fun _ _ _ => rfl) (fun q hq => ⟨by rw [gI_setI, if_neg (fun z => hq (Int.ofNat.inj z.2))], rfl⟩) (by rw [zEnc_l rfl, gI_setI, if_pos ⟨rfl, rfl⟩]) (hS.1.2.2.1.setI ha h0 h1 (Or.inr fun q hq => ⟨by rw [zTy_arr _ q (by omega)]; rfl, wx⟩)) (fun y hy => hy.setI))
end ZF
