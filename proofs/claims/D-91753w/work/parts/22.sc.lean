/-! THE NAMED HEAP, part C: the entry, the plain instructions, the ends -/
set_option maxRecDepth 100000
theorem zSt.re {D : va_G} {A : Nat → Prop} {ρ0 ρ : zNm → Nat} {h0 h : zH} {L : List (Option zV)} {st st' : List zV} {H0 H : Heap} {locs : List Loc} (hS : zSt D A ρ0 h0 ρ L st h H0 H locs) (w : ∀ v ∈ st', zWfV h v) : zSt D A ρ0 h0 ρ L st' h H0 H locs := ⟨hS.1, w, hS.2.2⟩
theorem zSt.tl {D : va_G} {A : Nat → Prop} {ρ0 ρ : zNm → Nat} {h0 h : zH} {L : List (Option zV)} {v : zV} {st : List zV} {H0 H : Heap} {locs : List Loc} (hS : zSt D A ρ0 h0 ρ L (v :: st) h H0 H locs) : zSt D A ρ0 h0 ρ L st h H0 H locs := hS.re fun w hw => hS.2.1 w (List.mem_cons_of_mem _ hw)
theorem zSt.hd {D : va_G} {A : Nat → Prop} {ρ0 ρ : zNm → Nat} {h0 h : zH} {L : List (Option zV)} {v : zV} {st : List zV} {H0 H : Heap} {locs : List Loc} (hS : zSt D A ρ0 h0 ρ L (v :: st) h H0 H locs) : zWfV h v := hS.2.1 v List.mem_cons_self
theorem zSt.cons {D : va_G} {A : Nat → Prop} {ρ0 ρ : zNm → Nat} {h0 h : zH} {L : List (Option zV)} {v : zV} {st : List zV} {H0 H : Heap} {locs : List Loc} (hS : zSt D A ρ0 h0 ρ L st h H0 H locs) (w : zWfV h v) : zSt D A ρ0 h0 ρ L (v :: st) h H0 H locs := hS.re fun x hx => by
  rcases List.mem_cons.mp hx with e | e
  · rw [e]; exact w
  · exact hS.2.1 x e
theorem zSt.loc {D : va_G} {A : Nat → Prop} {ρ0 ρ : zNm → Nat} {h0 h : zH} {L L' : List (Option zV)} {st : List zV} {H0 H : Heap} {locs : List Loc} (hS : zSt D A ρ0 h0 ρ L st h H0 H locs) (w : ∀ (i : Nat) (v : zV), L'[i]? = some (some v) → zWfV h v) : zSt D A ρ0 h0 ρ L' st h H0 H locs := ⟨hS.1, hS.2.1, w, hS.2.2.2⟩
theorem zSt.va {D : va_G} {A : Nat → Prop} {ρ0 ρ : zNm → Nat} {h0 h : zH} {L : List (Option zV)} {st : List zV} {H0 H : Heap} {locs : List Loc} (hS : zSt D A ρ0 h0 ρ L st h H0 H locs) : va_S A H0 H locs := ⟨hS.1.2.2.2.2.2.1, hS.1.2.2.2.2.2.2, hS.2.2.2⟩
theorem zVal_cat (ρ : zNm → Nat) (v : zV) : (zVal ρ v).category = (match v with | .inr (.inl _) => 2 | _ => 1) := by
  match v with
  | .inl x => rfl
  | .inr (.inl x) => rfl
  | .inr (.inr none) => rfl
  | .inr (.inr (some a)) => rfl
theorem zLs_len (ρ : zNm → Nat) (av : List zV) : (lg_sl (av.map (zVal ρ))).length = (zLs av).length := by
  induction av with
  | nil => rfl
  | cons v av ih =>
    have e1 : lg_sl ((v :: av).map (zVal ρ)) = (if (zVal ρ v).category = 2 then [.val (zVal ρ v), .second] else [.val (zVal ρ v)]) ++ lg_sl (av.map (zVal ρ)) := by
      simp [lg_sl]
    have e2 : zLs (v :: av) = zL1 v ++ zLs av := by simp only [zLs, List.flatMap_cons]
    rw [e1, e2, List.length_append, List.length_append, ih, zVal_cat]
    match v with
    | .inl x => rfl
    | .inr (.inl x) => rfl
    | .inr (.inr r) => rfl
theorem zLs_args (ρ : zNm → Nat) : ∀ (av : List zV) (off i : Nat) (v : zV), (zLs av)[i]? = some (some v) → (off + i, zVal ρ v) ∈ lv_args off (av.map (zVal ρ)) := by
  intro av
  induction av with
  | nil => intro off i v h; simp [zLs] at h
  | cons w av ih =>
    intro off i v h
    show _ ∈ (off, zVal ρ w) :: lv_args (if (zVal ρ w).category = 2 then off + 2 else off + 1) (av.map (zVal ρ))
    have e2 : zLs (w :: av) = zL1 w ++ zLs av := by simp only [zLs, List.flatMap_cons]
    rw [e2] at h
    rw [zVal_cat]
    clear e2
    match w, h with
    | .inl x, h =>
      cases i with
      | zero => cases h; exact List.mem_cons_self
      | succ i =>
        have := ih (off + 1) i v h
        rw [show off + (i + 1) = off + 1 + i by omega]
        exact List.mem_cons_of_mem _ this
    | .inr (.inr r), h =>
      cases i with
      | zero => cases h; exact List.mem_cons_self
      | succ i =>
        have := ih (off + 1) i v h
        rw [show off + (i + 1) = off + 1 + i by omega]
        exact List.mem_cons_of_mem _ this
    | .inr (.inl x), h =>
      cases i with
      | zero => cases h; exact List.mem_cons_self
      | succ i =>
        cases i with
        | zero => cases h
        | succ i =>
          have := ih (off + 2) i v h
          rw [show off + (i + 1 + 1) = off + 2 + i by omega]
          exact List.mem_cons_of_mem _ this
theorem zL0_in {nL : Nat} {av : List zV} {i : Nat} {v : zV} (h : (zL0 nL av)[i]? = some (some v)) : (zLs av)[i]? = some (some v) := by
  unfold zL0 at h
  rw [List.getElem?_append] at h
  split at h
  · exact h
  · rw [List.getElem?_replicate] at h
    split at h <;> cases h
theorem zLs_mem : ∀ (av : List zV) (i : Nat) (v : zV), (zLs av)[i]? = some (some v) → v ∈ av := by
  intro av
  induction av with
  | nil => intro i v h; simp [zLs] at h
  | cons w av ih =>
    intro i v h
    have e2 : zLs (w :: av) = zL1 w ++ zLs av := by simp only [zLs, List.flatMap_cons]
    rw [e2] at h
    clear e2
    match w, h with
    | .inl x, h =>
      cases i with
      | zero => cases h; exact List.mem_cons_self
      | succ i => exact List.mem_cons_of_mem _ (ih i v h)
    | .inr (.inr r), h =>
      cases i with
      | zero => cases h; exact List.mem_cons_self
      | succ i => exact List.mem_cons_of_mem _ (ih i v h)
    | .inr (.inl x), h =>
      cases i with
      | zero => cases h; exact List.mem_cons_self
      | succ i =>
        cases i with
        | zero => cases h
        | succ i => exact List.mem_cons_of_mem _ (ih i v h)
theorem zl_entry {ρ : zNm → Nat} {nL : Nat} {av : List zV} (hL : (zLs av).length ≤ nL) : lv_has ((lg_sl (av.map (zVal ρ)) ++ List.replicate (nL - (lg_sl (av.map (zVal ρ))).length) Slot.unset).toArray) nL (zPr ρ (zL0 nL av)) := by
  have h := lv_entry (av.map (zVal ρ)) (n := nL) (by rw [zLs_len]; exact hL)
  refine ⟨h.1, h.2.1, fun q hq => ?_⟩
  obtain ⟨v, h1, h2⟩ := zPr_mem.mp hq
  have h3 := zLs_args ρ av 0 q.1 v (zL0_in h1)
  rw [Nat.zero_add, ← h2] at h3
  exact h.2.2 q h3
/-- A CONTRACT OUT OF A WALK -/
theorem Con.ofS {l : Launch} {y : zMd} {d mc ms : Nat} {av : List zV} {h : zH} {Q : Option zV → zH → Prop} {X : zNm → zH → Prop} (hy : plainName y.1.cls = true) (hL : (zLs av).length ≤ y.2.2.1)
    (body : ∀ Γ : zG, Ctx Γ l y.2.1 y.1.cls y.1.name y.2.2.1 y.2.2.2 Q X d mc ms → NoH Γ → zWfH h → (∀ v ∈ av, zWfV h v) → SS Γ 0 (zL0 y.2.2.1 av) [] h 0 0) : Con l y d mc ms av h Q X := by
  intro D ρ sz
  refine vy_ofW hy rfl ?_
  intro p e s m args below meth c s₁ B hml hno hv
  obtain ⟨rfl, hsz, hKn, hR, hI, hW, hV⟩ := hv
  have hts := atoms_spec (ws := ws_ y.1 y.2.1 y.2.2.1 y.2.2.2) B.pre
  have hts : ∀ w ∈ lw_all, w.before _ s = true := fun w h => hts w (List.mem_cons_of_mem _ h)
  have hown : s.vm.findClass y.1.cls = some m.cls := findClass_of_methodNamed B.named
  have hnm : meth.name = y.1.name := (name_of_methodNamed B.named B.method).1
  rw [lg_entry_eq]
  subst hsz
  have hl := zl_entry (ρ := ρ) hL
  rw [← hml] at hl
  exact body (p, l, e, (headSpec (ws_ y.1 y.2.1 y.2.2.1 y.2.2.2) (zRm d mc ms)).room, s, m, (av.map (zVal ρ)).toArray, below, meth, c, zA ρ h s.heap.size, D, Q, X, mc, ms, ρ, h)
    ⟨B.exec, B.bytes, hml, B.returns, B.notSynchronized, hown, hts, fun q hq => Or.inr hq, hKn, hnm, rfl, rfl, rfl, rfl, rfl, rfl⟩ hno hW hV ρ _ s.heap [] (by rw [← hml]; exact hl)
    ⟨⟨hR, hI, hW, zExt.rf ρ h, fun a ha hn => Or.inl ⟨a, ha, hn, rfl⟩, Nat.le_refl _, fun _ _ _ => rfl⟩, fun v hv => (by cases hv), fun i v hv => hV v (zLs_mem av i v (zL0_in hv)), fun z hz => (by cases hz)⟩
section ZR
variable {Γ : zG} {l9 : Launch} {cc : ByteArray} {own nm : String} {nL : Nat} {ret : Option FieldType} {Q : Option zV → zH → Prop} {X : zNm → zH → Prop} {d mc ms : Nat} {pc pc' : Nat} {L : List (Option zV)} {st : List zV} {h : zH} {k n : Nat}
/-! constants -/
theorem zs_iconst {v : Int} (hΓ : Ctx Γ l9 cc own nm nL ret Q X d mc ms) (hd : decode cc pc = .ok (.iconst v, 1)) (hp : pc + 1 = pc') (hv : inI v) (kk : SS Γ pc' L (zI v :: st) h k n) : SS Γ pc L st h k n := by
  obtain ⟨p, l, e, R, s, m, args, below, meth, c, A, D, Q0, X0, mc0, ms0, ρ0, h0⟩ := Γ
  obtain ⟨hx, hb, -⟩ := hΓ
  subst hp
  intro ρ ls H locs hl hS
  exact lv_iconst (v := iO v) hx hb hd rfl (kk ρ ls H locs hl (hS.cons hv))
theorem zs_bipush {v : Int} (hΓ : Ctx Γ l9 cc own nm nL ret Q X d mc ms) (hd : decode cc pc = .ok (.bipush v, 2)) (hp : pc + 2 = pc') (hv : -128 ≤ v ∧ v ≤ 127) (kk : SS Γ pc' L (zI v :: st) h k n) : SS Γ pc L st h k n := by
  obtain ⟨p, l, e, R, s, m, args, below, meth, c, A, D, Q0, X0, mc0, ms0, ρ0, h0⟩ := Γ
  obtain ⟨hx, hb, -⟩ := hΓ
  subst hp
  intro ρ ls H locs hl hS
  have hi : inI v := ⟨by omega, by omega⟩
  have e8 : (Int8.ofInt v).toInt32 = iO v := by
    apply Int32.toInt_inj.mp
    rw [Int8.toInt_toInt32, Int8.toInt_ofInt_of_le (by omega) (by omega), iO_toInt hi]
  exact lv_bipush (v := iO v) hx hb hd e8 (kk ρ ls H locs hl (hS.cons hi))
theorem zs_sipush {v : Int} (hΓ : Ctx Γ l9 cc own nm nL ret Q X d mc ms) (hd : decode cc pc = .ok (.sipush v, 3)) (hp : pc + 3 = pc') (hv : -32768 ≤ v ∧ v ≤ 32767) (kk : SS Γ pc' L (zI v :: st) h k n) : SS Γ pc L st h k n := by
  obtain ⟨p, l, e, R, s, m, args, below, meth, c, A, D, Q0, X0, mc0, ms0, ρ0, h0⟩ := Γ
  obtain ⟨hx, hb, -⟩ := hΓ
  subst hp
  intro ρ ls H locs hl hS
  have hi : inI v := ⟨by omega, by omega⟩
  have e8 : (Int16.ofInt v).toInt32 = iO v := by
    apply Int32.toInt_inj.mp
    rw [Int16.toInt_toInt32, Int16.toInt_ofInt_of_le (by omega) (by omega), iO_toInt hi]
  exact lv_sipush (v := iO v) hx hb hd e8 (kk ρ ls H locs hl (hS.cons hi))
theorem zs_ldc {i : Nat} {v : Int} (hΓ : Ctx Γ l9 cc own nm nL ret Q X d mc ms) (hd : decode cc pc = .ok (.ldc i, 2)) (hp : pc + 2 = pc') (hq : Cond.constant own i (iO v) ∈ lw_all) (hv : inI v) (kk : SS Γ pc' L (zI v :: st) h k n) : SS Γ pc L st h k n := by
  obtain ⟨p, l, e, R, s, m, args, below, meth, c, A, D, Q0, X0, mc0, ms0, ρ0, h0⟩ := Γ
  obtain ⟨hx, hb, -, -, -, hown, hts, -⟩ := hΓ
  subst hp
  intro ρ ls H locs hl hS
  exact lv_ldc (v := iO v) hx hb hown (hts _ hq) hd (kk ρ ls H locs hl (hS.cons hv))
theorem zs_ldcw {i : Nat} {v : Int} (hΓ : Ctx Γ l9 cc own nm nL ret Q X d mc ms) (hd : decode cc pc = .ok (.ldc_w i, 3)) (hp : pc + 3 = pc') (hq : Cond.constant own i (iO v) ∈ lw_all) (hv : inI v) (kk : SS Γ pc' L (zI v :: st) h k n) : SS Γ pc L st h k n := by
  obtain ⟨p, l, e, R, s, m, args, below, meth, c, A, D, Q0, X0, mc0, ms0, ρ0, h0⟩ := Γ
  obtain ⟨hx, hb, -, -, -, hown, hts, -⟩ := hΓ
  subst hp
  intro ρ ls H locs hl hS
  exact lv_ldcw (v := iO v) hx hb hown (hts _ hq) hd (kk ρ ls H locs hl (hS.cons hv))
theorem zs_ldc2 {i : Nat} {v : Int} (hΓ : Ctx Γ l9 cc own nm nL ret Q X d mc ms) (hd : decode cc pc = .ok (.ldc2_w i, 3)) (hp : pc + 3 = pc') (hq : Cond.constantLong own i (lO v) ∈ lw_all) (hv : inL v) (kk : SS Γ pc' L (zL v :: st) h k n) : SS Γ pc L st h k n := by
  obtain ⟨p, l, e, R, s, m, args, below, meth, c, A, D, Q0, X0, mc0, ms0, ρ0, h0⟩ := Γ
  obtain ⟨hx, hb, -, -, -, hown, hts, -⟩ := hΓ
  subst hp
  intro ρ ls H locs hl hS
  exact lv_ldc2 (v := lO v) hx hb hown (hts _ hq) hd (kk ρ ls H locs hl (hS.cons hv))
theorem zs_lconst {v : Fin 2} (hΓ : Ctx Γ l9 cc own nm nL ret Q X d mc ms) (hd : decode cc pc = .ok (.lconst v, 1)) (hp : pc + 1 = pc') (kk : SS Γ pc' L (zL (v : Nat) :: st) h k n) : SS Γ pc L st h k n := by
  obtain ⟨p, l, e, R, s, m, args, below, meth, c, A, D, Q0, X0, mc0, ms0, ρ0, h0⟩ := Γ
  obtain ⟨hx, hb, -⟩ := hΓ
  subst hp
  intro ρ ls H locs hl hS
  have hv : inL ((v : Nat) : Int) := ⟨by omega, by have := v.isLt; omega⟩
  exact lv_lconst (v := lO (v : Nat)) hx hb hd (Int64.ofInt_eq_ofNat).symm (kk ρ ls H locs hl (hS.cons hv))
theorem zs_null (hΓ : Ctx Γ l9 cc own nm nL ret Q X d mc ms) (hd : decode cc pc = .ok (.aconst_null, 1)) (hp : pc + 1 = pc') (kk : SS Γ pc' L (zR none :: st) h k n) : SS Γ pc L st h k n := by
  obtain ⟨p, l, e, R, s, m, args, below, meth, c, A, D, Q0, X0, mc0, ms0, ρ0, h0⟩ := Γ
  obtain ⟨hx, hb, -⟩ := hΓ
  subst hp
  intro ρ ls H locs hl hS
  exact lv_null hx hb hd (kk ρ ls H locs hl (hS.cons fun b e => by cases e))
/-! locals -/
theorem zl_at {ρ : zNm → Nat} {ls : Array Slot} {i : Nat} {v : zV} (hl : lv_has ls nL (zPr ρ L)) (hi : L[i]? = some (some v)) : ls[i]? = some (.val (zVal ρ v)) := hl.2.2 (i, zVal ρ v) (zPr_mem.mpr ⟨v, hi, rfl⟩)
theorem zs_iload_n {q : Fin 4} {i : Nat} {x : Int} (hΓ : Ctx Γ l9 cc own nm nL ret Q X d mc ms) (hd : decode cc pc = .ok (.iload_n q, 1)) (hp : pc + 1 = pc') (hq : (q : Nat) = i) (hv : L[i]? = some (some (zI x))) (kk : SS Γ pc' L (zI x :: st) h k n) : SS Γ pc L st h k n := by
  obtain ⟨p, l, e, R, s, m, args, below, meth, c, A, D, Q0, X0, mc0, ms0, ρ0, h0⟩ := Γ
  obtain ⟨hx, hb, -⟩ := hΓ
  subst hp
  intro ρ ls H locs hl hS
  exact lv_iload_n hx hb hd hq (zl_at hl hv) (kk ρ ls H locs hl (hS.cons (hS.2.2.1 i _ hv)))
theorem zs_iload {i : Nat} {x : Int} (hΓ : Ctx Γ l9 cc own nm nL ret Q X d mc ms) (hd : decode cc pc = .ok (.iload i, 2)) (hp : pc + 2 = pc') (hv : L[i]? = some (some (zI x))) (kk : SS Γ pc' L (zI x :: st) h k n) : SS Γ pc L st h k n := by
  obtain ⟨p, l, e, R, s, m, args, below, meth, c, A, D, Q0, X0, mc0, ms0, ρ0, h0⟩ := Γ
  obtain ⟨hx, hb, -⟩ := hΓ
  subst hp
  intro ρ ls H locs hl hS
  exact lv_iload hx hb hd (zl_at hl hv) (kk ρ ls H locs hl (hS.cons (hS.2.2.1 i _ hv)))
theorem zs_lload_n {q : Fin 4} {i : Nat} {x : Int} (hΓ : Ctx Γ l9 cc own nm nL ret Q X d mc ms) (hd : decode cc pc = .ok (.lload_n q, 1)) (hp : pc + 1 = pc') (hq : (q : Nat) = i) (hv : L[i]? = some (some (zL x))) (kk : SS Γ pc' L (zL x :: st) h k n) : SS Γ pc L st h k n := by
  obtain ⟨p, l, e, R, s, m, args, below, meth, c, A, D, Q0, X0, mc0, ms0, ρ0, h0⟩ := Γ
  obtain ⟨hx, hb, -⟩ := hΓ
  subst hp
  intro ρ ls H locs hl hS
  exact lv_lload_n hx hb hd hq (zl_at hl hv) (kk ρ ls H locs hl (hS.cons (hS.2.2.1 i _ hv)))
theorem zs_lload {i : Nat} {x : Int} (hΓ : Ctx Γ l9 cc own nm nL ret Q X d mc ms) (hd : decode cc pc = .ok (.lload i, 2)) (hp : pc + 2 = pc') (hv : L[i]? = some (some (zL x))) (kk : SS Γ pc' L (zL x :: st) h k n) : SS Γ pc L st h k n := by
  obtain ⟨p, l, e, R, s, m, args, below, meth, c, A, D, Q0, X0, mc0, ms0, ρ0, h0⟩ := Γ
  obtain ⟨hx, hb, -⟩ := hΓ
  subst hp
  intro ρ ls H locs hl hS
  exact lv_lload hx hb hd (zl_at hl hv) (kk ρ ls H locs hl (hS.cons (hS.2.2.1 i _ hv)))
theorem zs_aload_n {q : Fin 4} {i : Nat} {x : Option zNm} (hΓ : Ctx Γ l9 cc own nm nL ret Q X d mc ms) (hd : decode cc pc = .ok (.aload_n q, 1)) (hp : pc + 1 = pc') (hq : (q : Nat) = i) (hv : L[i]? = some (some (zR x))) (kk : SS Γ pc' L (zR x :: st) h k n) : SS Γ pc L st h k n := by
  obtain ⟨p, l, e, R, s, m, args, below, meth, c, A, D, Q0, X0, mc0, ms0, ρ0, h0⟩ := Γ
  obtain ⟨hx, hb, -⟩ := hΓ
  subst hp
  intro ρ ls H locs hl hS
  have h9 := kk ρ ls H locs hl (hS.cons (hS.2.2.1 i _ hv))
  have h8 := zl_at hl hv
  cases x with
  | none => exact lv_aload_nN hx hb hd hq h8 h9
  | some a => exact lv_aload_n hx hb hd hq h8 h9
theorem zs_aload {i : Nat} {x : Option zNm} (hΓ : Ctx Γ l9 cc own nm nL ret Q X d mc ms) (hd : decode cc pc = .ok (.aload i, 2)) (hp : pc + 2 = pc') (hv : L[i]? = some (some (zR x))) (kk : SS Γ pc' L (zR x :: st) h k n) : SS Γ pc L st h k n := by
  obtain ⟨p, l, e, R, s, m, args, below, meth, c, A, D, Q0, X0, mc0, ms0, ρ0, h0⟩ := Γ
  obtain ⟨hx, hb, -⟩ := hΓ
  subst hp
  intro ρ ls H locs hl hS
  have h9 := kk ρ ls H locs hl (hS.cons (hS.2.2.1 i _ hv))
  have h8 := zl_at hl hv
  cases x with
  | none => exact lv_aloadN hx hb hd h8 h9
  | some a => exact lv_aload hx hb hd h8 h9
/-- the local ahead of i isn't a long -/
def zFree (L : List (Option zV)) (i : Nat) : Bool := match i with
  | 0 => true
  | i + 1 => match L[i]? with
    | some (some (.inr (.inl _))) => false
    | _ => true
theorem zl_set1 {ρ : zNm → Nat} {i : Nat} {v : zV} (hv : (zVal ρ v).category = 1) (hf : zFree L i = true) : ∀ q ∈ zPr ρ (L.set i (some v)), q ∈ (i, zVal ρ v) :: (zPr ρ L).filter (fun q => !(q.1 == i) && !(q.1 + 1 == i && q.2.category == 2)) := by
  intro q hq
  obtain ⟨w, h1, h2⟩ := zPr_mem.mp hq
  by_cases e : q.1 = i
  · have hlt : i < L.length := by
      have := (List.getElem?_eq_some_iff.mp h1).1
      rw [List.length_set] at this
      omega
    rw [e, List.getElem?_set_self hlt] at h1
    cases h1
    obtain ⟨q1, q2⟩ := q
    have e : q1 = i := e
    have h2 : q2 = zVal ρ v := h2
    subst e; subst h2
    exact List.mem_cons_self
  · rw [List.getElem?_set_ne (Ne.symm e)] at h1
    refine List.mem_cons_of_mem _ (List.mem_filter.mpr ⟨zPr_mem.mpr ⟨w, h1, h2⟩, ?_⟩)
    have e1 : (q.1 == i) = false := by simp [e]
    rw [e1]
    by_cases e3 : q.1 + 1 = i
    · subst e3
      have e4 : ¬ (q.2.category = 2) := by
        intro z
        rw [h2, zVal_cat] at z
        have hf : (match L[q.1]? with
          | some (some (.inr (.inl _))) => false
          | _ => true) = true := hf
        rw [h1] at hf
        match w, z, hf with
        | .inl x, z, hf => cases z
        | .inr (.inl x), z, hf => cases hf
        | .inr (.inr r), z, hf => cases z
      simp [e4]
    · simp [e3]
theorem zl_has {ρ : zNm → Nat} {ls : Array Slot} {l : List (Nat × Value)} {L' : List (Option zV)} (hl : lv_has ls nL l) (hs : ∀ q ∈ zPr ρ L', q ∈ l) : lv_has ls nL (zPr ρ L') := ⟨hl.1, hl.2.1, fun q hq => hl.2.2 q (hs q hq)⟩
theorem zl_wf {v : zV} {i : Nat} (w : ∀ (i : Nat) (v : zV), L[i]? = some (some v) → zWfV h v) (hv : zWfV h v) : ∀ (j : Nat) (x : zV), (L.set i (some v))[j]? = some (some x) → zWfV h x := by
  intro j x hj
  by_cases e : j = i
  · subst e
    have hlt : j < L.length := by
      have := (List.getElem?_eq_some_iff.mp hj).1
      rw [List.length_set] at this
      omega
    rw [List.getElem?_set_self hlt] at hj
    cases hj
    exact hv
  · rw [List.getElem?_set_ne (Ne.symm e)] at hj
    exact w j x hj
theorem zs_istore_n {q : Fin 4} {i : Nat} {x : Int} {L' : List (Option zV)} (hΓ : Ctx Γ l9 cc own nm nL ret Q X d mc ms) (hd : decode cc pc = .ok (.istore_n q, 1)) (hp : pc + 1 = pc') (hq : (q : Nat) = i) (hi : i < nL) (hf : zFree L i = true) (hL : L.set i (some (zI x)) = L') (kk : SS Γ pc' L' st h k n) : SS Γ pc L (zI x :: st) h k n := by
  obtain ⟨p, l, e, R, s, m, args, below, meth, c, A, D, Q0, X0, mc0, ms0, ρ0, h0⟩ := Γ
  obtain ⟨hx, hb, hml, -⟩ := hΓ
  subst hp; subst hL; subst hml
  intro ρ ls H locs hl hS
  exact lv_istore_n hx hb hd hq hl hi rfl fun ls' hl' => kk ρ ls' H locs (zl_has hl' (zl_set1 rfl hf)) (hS.tl.loc (zl_wf hS.2.2.1 hS.hd))
theorem zs_istore {i : Nat} {x : Int} {L' : List (Option zV)} (hΓ : Ctx Γ l9 cc own nm nL ret Q X d mc ms) (hd : decode cc pc = .ok (.istore i, 2)) (hp : pc + 2 = pc') (hi : i < nL) (hf : zFree L i = true) (hL : L.set i (some (zI x)) = L') (kk : SS Γ pc' L' st h k n) : SS Γ pc L (zI x :: st) h k n := by
  obtain ⟨p, l, e, R, s, m, args, below, meth, c, A, D, Q0, X0, mc0, ms0, ρ0, h0⟩ := Γ
  obtain ⟨hx, hb, hml, -⟩ := hΓ
  subst hp; subst hL; subst hml
  intro ρ ls H locs hl hS
  exact lv_istore hx hb hd hl hi rfl fun ls' hl' => kk ρ ls' H locs (zl_has hl' (zl_set1 rfl hf)) (hS.tl.loc (zl_wf hS.2.2.1 hS.hd))
theorem zs_astore_n {q : Fin 4} {i : Nat} {x : Option zNm} {L' : List (Option zV)} (hΓ : Ctx Γ l9 cc own nm nL ret Q X d mc ms) (hd : decode cc pc = .ok (.astore_n q, 1)) (hp : pc + 1 = pc') (hq : (q : Nat) = i) (hi : i < nL) (hf : zFree L i = true) (hL : L.set i (some (zR x)) = L') (kk : SS Γ pc' L' st h k n) : SS Γ pc L (zR x :: st) h k n := by
  obtain ⟨p, l, e, R, s, m, args, below, meth, c, A, D, Q0, X0, mc0, ms0, ρ0, h0⟩ := Γ
  obtain ⟨hx, hb, hml, -⟩ := hΓ
  subst hp; subst hL; subst hml
  intro ρ ls H locs hl hS
  cases x with
  | none => exact lv_astore_nN hx hb hd hq hl hi rfl fun ls' hl' => kk ρ ls' H locs (zl_has hl' (zl_set1 (v := zR none) rfl hf)) (hS.tl.loc (zl_wf hS.2.2.1 hS.hd))
  | some a => exact lv_astore_n hx hb hd hq hl hi rfl fun ls' hl' => kk ρ ls' H locs (zl_has hl' (zl_set1 (v := zR (some a)) rfl hf)) (hS.tl.loc (zl_wf hS.2.2.1 hS.hd))
theorem zs_astore {i : Nat} {x : Option zNm} {L' : List (Option zV)} (hΓ : Ctx Γ l9 cc own nm nL ret Q X d mc ms) (hd : decode cc pc = .ok (.astore i, 2)) (hp : pc + 2 = pc') (hi : i < nL) (hf : zFree L i = true) (hL : L.set i (some (zR x)) = L') (kk : SS Γ pc' L' st h k n) : SS Γ pc L (zR x :: st) h k n := by
  obtain ⟨p, l, e, R, s, m, args, below, meth, c, A, D, Q0, X0, mc0, ms0, ρ0, h0⟩ := Γ
  obtain ⟨hx, hb, hml, -⟩ := hΓ
  subst hp; subst hL; subst hml
  intro ρ ls H locs hl hS
  cases x with
  | none => exact lv_astoreN hx hb hd hl hi rfl fun ls' hl' => kk ρ ls' H locs (zl_has hl' (zl_set1 (v := zR none) rfl hf)) (hS.tl.loc (zl_wf hS.2.2.1 hS.hd))
  | some a => exact lv_astore hx hb hd hl hi rfl fun ls' hl' => kk ρ ls' H locs (zl_has hl' (zl_set1 (v := zR (some a)) rfl hf)) (hS.tl.loc (zl_wf hS.2.2.1 hS.hd))
theorem zs_iinc {i : Nat} {v x : Int} {L' : List (Option zV)} (hΓ : Ctx Γ l9 cc own nm nL ret Q X d mc ms) (hd : decode cc pc = .ok (.iinc i v, 3)) (hp : pc + 3 = pc') (hv : L[i]? = some (some (zI x))) (hr : inI (x + v)) (hi : i < nL) (hf : zFree L i = true) (hL : L.set i (some (zI (x + v))) = L') (kk : SS Γ pc' L' st h k n) : SS Γ pc L st h k n := by
  obtain ⟨p, l, e, R, s, m, args, below, meth, c, A, D, Q0, X0, mc0, ms0, ρ0, h0⟩ := Γ
  obtain ⟨hx, hb, hml, -⟩ := hΓ
  subst hp; subst hL; subst hml
  intro ρ ls H locs hl hS
  obtain ⟨j, hj⟩ := List.getElem?_of_mem (zPr_mem (ρ := ρ) (L := L) (q := (i, .int (iO x))).mpr ⟨_, hv, rfl⟩)
  exact lv_iinc (v := iO (x + v)) hx hb hd hl hj (Int32.ofInt_add x v).symm hi rfl fun ls' hl' => kk ρ ls' H locs (zl_has hl' (zl_set1 (v := zI (x + v)) rfl hf)) (hS.loc (zl_wf hS.2.2.1 hr))
theorem zs_lstore {i : Nat} {x : Int} {L' : List (Option zV)} (hΓ : Ctx Γ l9 cc own nm nL ret Q X d mc ms) (hd : decode cc pc = .ok (.lstore i, 2)) (hp : pc + 2 = pc') (hi : i + 1 < nL) (hf : zFree L i = true) (hL : (L.set i (some (zL x))).set (i + 1) none = L') (kk : SS Γ pc' L' st h k n) : SS Γ pc L (zL x :: st) h k n := by
  obtain ⟨p, l, e, R, s, m, args, below, meth, c, A, D, Q0, X0, mc0, ms0, ρ0, h0⟩ := Γ
  obtain ⟨hx, hb, hml, -⟩ := hΓ
  subst hp; subst hL; subst hml
  intro ρ ls H locs hl hS
  have hin : ∀ (j : Nat) (w : zV), ((L.set i (some (zL x))).set (i + 1) none)[j]? = some (some w) → j ≠ i + 1 ∧ (L.set i (some (zL x)))[j]? = some (some w) := by
    intro j w hj
    by_cases e : j = i + 1
    · subst e
      have hlt : i + 1 < (L.set i (some (zL x))).length := by
        have := (List.getElem?_eq_some_iff.mp hj).1
        rw [List.length_set] at this
        exact this
      rw [List.getElem?_set_self hlt] at hj
      cases hj
    · rw [List.getElem?_set_ne (Ne.symm e)] at hj
      exact ⟨e, hj⟩
  refine lv_lstore hx hb hd hl hi rfl fun ls' hl' => kk ρ ls' H locs (zl_has hl' ?_) (hS.tl.loc fun j w hj => zl_wf hS.2.2.1 hS.hd j w (hin j w hj).2)
  intro q hq
  obtain ⟨w, h1, h2⟩ := zPr_mem.mp hq
  obtain ⟨n1, h3⟩ := hin q.1 w h1
  by_cases e : q.1 = i
  · have hlt : i < L.length := by
      have := (List.getElem?_eq_some_iff.mp h3).1
      rw [List.length_set] at this
      omega
    rw [e, List.getElem?_set_self hlt] at h3
    cases h3
    obtain ⟨q1, q2⟩ := q
    have e : q1 = i := e
    have h2 : q2 = zVal ρ (zL x) := h2
    subst e; subst h2
    exact List.mem_cons_self
  · rw [List.getElem?_set_ne (Ne.symm e)] at h3
    refine List.mem_cons_of_mem _ (List.mem_filter.mpr ⟨zPr_mem.mpr ⟨w, h3, h2⟩, ?_⟩)
    have e1 : (q.1 == i) = false := by simp [e]
    have e2 : (q.1 == i + 1) = false := by simp [n1]
    rw [e1, e2]
    by_cases e3 : q.1 + 1 = i
    · subst e3
      have e4 : ¬ (q.2.category = 2) := by
        intro z
        rw [h2, zVal_cat] at z
        have hf : (match L[q.1]? with
          | some (some (.inr (.inl _))) => false
          | _ => true) = true := hf
        rw [h3] at hf
        match w, z, hf with
        | .inl x, z, hf => cases z
        | .inr (.inl x), z, hf => cases hf
        | .inr (.inr r), z, hf => cases z
      simp [e4]
    · simp [e3]
/-! numbers -/
theorem zs_iadd {x y : Int} (hΓ : Ctx Γ l9 cc own nm nL ret Q X d mc ms) (hd : decode cc pc = .ok (.iadd, 1)) (hp : pc + 1 = pc') (hr : inI (x + y)) (kk : SS Γ pc' L (zI (x + y) :: st) h k n) : SS Γ pc L (zI y :: zI x :: st) h k n := by
  obtain ⟨p, l, e, R, s, m, args, below, meth, c, A, D, Q0, X0, mc0, ms0, ρ0, h0⟩ := Γ
  obtain ⟨hx, hb, -⟩ := hΓ
  subst hp
  intro ρ ls H locs hl hS
  have h9 := kk ρ ls H locs hl (hS.tl.tl.cons hr)
  rw [List.map_cons, zVal_I, iO, Int32.ofInt_add] at h9
  exact lv_iadd hx hb hd h9
theorem zs_isub {x y : Int} (hΓ : Ctx Γ l9 cc own nm nL ret Q X d mc ms) (hd : decode cc pc = .ok (.isub, 1)) (hp : pc + 1 = pc') (hr : inI (x - y)) (kk : SS Γ pc' L (zI (x - y) :: st) h k n) : SS Γ pc L (zI y :: zI x :: st) h k n := by
  obtain ⟨p, l, e, R, s, m, args, below, meth, c, A, D, Q0, X0, mc0, ms0, ρ0, h0⟩ := Γ
  obtain ⟨hx, hb, -⟩ := hΓ
  subst hp
  intro ρ ls H locs hl hS
  have h9 := kk ρ ls H locs hl (hS.tl.tl.cons hr)
  rw [List.map_cons, zVal_I, iO, Int32.ofInt_sub] at h9
  exact lv_isub hx hb hd h9
theorem zs_imul {x y : Int} (hΓ : Ctx Γ l9 cc own nm nL ret Q X d mc ms) (hd : decode cc pc = .ok (.imul, 1)) (hp : pc + 1 = pc') (hr : inI (x * y)) (kk : SS Γ pc' L (zI (x * y) :: st) h k n) : SS Γ pc L (zI y :: zI x :: st) h k n := by
  obtain ⟨p, l, e, R, s, m, args, below, meth, c, A, D, Q0, X0, mc0, ms0, ρ0, h0⟩ := Γ
  obtain ⟨hx, hb, -⟩ := hΓ
  subst hp
  intro ρ ls H locs hl hS
  have h9 := kk ρ ls H locs hl (hS.tl.tl.cons hr)
  rw [List.map_cons, zVal_I, iO, Int32.ofInt_mul] at h9
  exact lv_imul hx hb hd h9
theorem zs_ineg {x : Int} (hΓ : Ctx Γ l9 cc own nm nL ret Q X d mc ms) (hd : decode cc pc = .ok (.ineg, 1)) (hp : pc + 1 = pc') (hr : inI (-x)) (kk : SS Γ pc' L (zI (-x) :: st) h k n) : SS Γ pc L (zI x :: st) h k n := by
  obtain ⟨p, l, e, R, s, m, args, below, meth, c, A, D, Q0, X0, mc0, ms0, ρ0, h0⟩ := Γ
  obtain ⟨hx, hb, -⟩ := hΓ
  subst hp
  intro ρ ls H locs hl hS
  have h9 := kk ρ ls H locs hl (hS.tl.cons hr)
  rw [List.map_cons, zVal_I, iO, Int32.ofInt_neg] at h9
  exact lv_ineg hx hb hd h9
theorem zs_idiv {x y : Int} (hΓ : Ctx Γ l9 cc own nm nL ret Q X d mc ms) (hd : decode cc pc = .ok (.idiv, 1)) (hp : pc + 1 = pc') (h1 : 0 ≤ x) (h2 : 0 < y) (kk : SS Γ pc' L (zI (x / y) :: st) h k n) : SS Γ pc L (zI y :: zI x :: st) h k n := by
  obtain ⟨p, l, e, R, s, m, args, below, meth, c, A, D, Q0, X0, mc0, ms0, ρ0, h0⟩ := Γ
  obtain ⟨hx, hb, -⟩ := hΓ
  subst hp
  intro ρ ls H locs hl hS
  have wy : inI y := hS.hd
  have wx : inI x := hS.tl.hd
  have hr : inI (x / y) := ⟨by have := Int.ediv_nonneg h1 (Int.le_of_lt h2); omega, by have := Int.ediv_le_self y h1; have := wx.2; omega⟩
  have h9 := kk ρ ls H locs hl (hS.tl.tl.cons hr)
  rw [List.map_cons, zVal_I, ← iO_div wx wy h1 h2] at h9
  exact lv_idiv hx hb hd (fun z => by have := (iO_eq0 wy).mp z; omega) h9
theorem zs_irem {x y : Int} (hΓ : Ctx Γ l9 cc own nm nL ret Q X d mc ms) (hd : decode cc pc = .ok (.irem, 1)) (hp : pc + 1 = pc') (h1 : 0 ≤ x) (h2 : 0 < y) (kk : SS Γ pc' L (zI (x % y) :: st) h k n) : SS Γ pc L (zI y :: zI x :: st) h k n := by
  obtain ⟨p, l, e, R, s, m, args, below, meth, c, A, D, Q0, X0, mc0, ms0, ρ0, h0⟩ := Γ
  obtain ⟨hx, hb, -⟩ := hΓ
  subst hp
  intro ρ ls H locs hl hS
  have wy : inI y := hS.hd
  have wx : inI x := hS.tl.hd
  have hr : inI (x % y) := inI_mod h2 (by have := wy.2; omega)
  have h9 := kk ρ ls H locs hl (hS.tl.tl.cons hr)
  rw [List.map_cons, zVal_I, ← iO_rem wx wy h1 h2] at h9
  exact lv_irem hx hb hd (fun z => by have := (iO_eq0 wy).mp z; omega) h9
/-- and, by whatever is known of it -/
theorem zs_iandG {x y z : Int} (hΓ : Ctx Γ l9 cc own nm nL ret Q X d mc ms) (hd : decode cc pc = .ok (.iand, 1)) (hp : pc + 1 = pc') (he : inI x → inI y → iO x &&& iO y = iO z ∧ inI z) (kk : SS Γ pc' L (zI z :: st) h k n) : SS Γ pc L (zI y :: zI x :: st) h k n := by
  obtain ⟨p, l, e, R, s, m, args, below, meth, c, A, D, Q0, X0, mc0, ms0, ρ0, h0⟩ := Γ
  obtain ⟨hx, hb, -⟩ := hΓ
  subst hp
  intro ρ ls H locs hl hS
  obtain ⟨e1, e2⟩ := he hS.tl.hd hS.hd
  have h9 := kk ρ ls H locs hl (hS.tl.tl.cons e2)
  rw [List.map_cons, zVal_I, ← e1] at h9
  exact lv_iand hx hb hd h9
/-- x & (2^q - 1) -/
theorem zs_iandM {x y m : Int} (q : Nat) (hΓ : Ctx Γ l9 cc own nm nL ret Q X d mc ms) (hd : decode cc pc = .ok (.iand, 1)) (hp : pc + 1 = pc') (hq : q < 31) (hy : y = ((2 ^ q - 1 : Nat) : Int)) (hm : m = ((2 ^ q : Nat) : Int)) (kk : SS Γ pc' L (zI (x % m) :: st) h k n) : SS Γ pc L (zI y :: zI x :: st) h k n := by
  subst hy; subst hm
  refine zs_iandG hΓ hd hp (fun _ _ => ⟨iO_mask x q hq, ?_⟩) kk
  have hp : 2 ^ q < 2 ^ 31 := Nat.pow_lt_pow_right (by decide) hq
  have hp0 : 0 < 2 ^ q := Nat.two_pow_pos q
  exact inI_mod (by omega) (by omega)
theorem zs_iandN {x y : Int} (hΓ : Ctx Γ l9 cc own nm nL ret Q X d mc ms) (hd : decode cc pc = .ok (.iand, 1)) (hp : pc + 1 = pc') (h1 : 0 ≤ x) (h2 : 0 ≤ y) (kk : SS Γ pc' L (zI ((x.toNat &&& y.toNat : Nat) : Int) :: st) h k n) : SS Γ pc L (zI y :: zI x :: st) h k n :=
  zs_iandG hΓ hd hp (fun w1 w2 => ⟨iO_and w1 w2 h1 h2, inI_and w1 h1⟩) kk
/-- x & ~b -/
theorem zs_iandC {x b : Int} (hΓ : Ctx Γ l9 cc own nm nL ret Q X d mc ms) (hd : decode cc pc = .ok (.iand, 1)) (hp : pc + 1 = pc') (h1 : 0 ≤ x) (h2 : 0 ≤ b) (hb : inI b) (kk : SS Γ pc' L (zI (x - ((x.toNat &&& b.toNat : Nat) : Int)) :: st) h k n) : SS Γ pc L (zI (-1 - b) :: zI x :: st) h k n :=
  zs_iandG hΓ hd hp (fun w1 _ => ⟨iO_andnot w1 hb h1 h2, by
    have a1 := Nat.and_le_left (n := x.toNat) (m := b.toNat)
    have a2 := w1.2
    exact ⟨by omega, by omega⟩⟩) kk
theorem zs_ior {x y : Int} (hΓ : Ctx Γ l9 cc own nm nL ret Q X d mc ms) (hd : decode cc pc = .ok (.ior, 1)) (hp : pc + 1 = pc') (h1 : 0 ≤ x) (h2 : 0 ≤ y) (kk : SS Γ pc' L (zI ((x.toNat ||| y.toNat : Nat) : Int) :: st) h k n) : SS Γ pc L (zI y :: zI x :: st) h k n := by
  obtain ⟨p, l, e, R, s, m, args, below, meth, c, A, D, Q0, X0, mc0, ms0, ρ0, h0⟩ := Γ
  obtain ⟨hx, hb, -⟩ := hΓ
  subst hp
  intro ρ ls H locs hl hS
  have wy : inI y := hS.hd
  have wx : inI x := hS.tl.hd
  have h9 := kk ρ ls H locs hl (hS.tl.tl.cons (inI_or wx wy))
  rw [List.map_cons, zVal_I, ← iO_or wx wy h1 h2] at h9
  exact lv_ior hx hb hd h9
/-- x ^ -1 -/
theorem zs_inot {x : Int} (hΓ : Ctx Γ l9 cc own nm nL ret Q X d mc ms) (hd : decode cc pc = .ok (.ixor, 1)) (hp : pc + 1 = pc') (kk : SS Γ pc' L (zI (-1 - x) :: st) h k n) : SS Γ pc L (zI (-1) :: zI x :: st) h k n := by
  obtain ⟨p, l, e, R, s, m, args, below, meth, c, A, D, Q0, X0, mc0, ms0, ρ0, h0⟩ := Γ
  obtain ⟨hx, hb, -⟩ := hΓ
  subst hp
  intro ρ ls H locs hl hS
  have wx : inI x := hS.tl.hd
  have h9 := kk ρ ls H locs hl (hS.tl.tl.cons (v := zI (-1 - x)) ⟨by have := wx.2; omega, by have := wx.1; omega⟩)
  rw [List.map_cons, zVal_I, ← iO_not wx] at h9
  exact lv_ixor hx hb hd h9
theorem zs_ixorN {x y : Int} (hΓ : Ctx Γ l9 cc own nm nL ret Q X d mc ms) (hd : decode cc pc = .ok (.ixor, 1)) (hp : pc + 1 = pc') (h1 : 0 ≤ x) (h2 : 0 ≤ y) (kk : SS Γ pc' L (zI ((x.toNat ^^^ y.toNat : Nat) : Int) :: st) h k n) : SS Γ pc L (zI y :: zI x :: st) h k n := by
  obtain ⟨p, l, e, R, s, m, args, below, meth, c, A, D, Q0, X0, mc0, ms0, ρ0, h0⟩ := Γ
  obtain ⟨hx, hb, -⟩ := hΓ
  subst hp
  intro ρ ls H locs hl hS
  have wy : inI y := hS.hd
  have wx : inI x := hS.tl.hd
  have h9 := kk ρ ls H locs hl (hS.tl.tl.cons (inI_xor wx wy))
  rw [List.map_cons, zVal_I, ← iO_xor wx wy h1 h2] at h9
  exact lv_ixor hx hb hd h9
theorem zs_ishl {x y m : Int} (q : Nat) (hΓ : Ctx Γ l9 cc own nm nL ret Q X d mc ms) (hd : decode cc pc = .ok (.ishl, 1)) (hp : pc + 1 = pc') (h1 : 0 ≤ x) (hq : q < 32) (hy : y = (q : Int)) (hm : m = ((2 ^ q : Nat) : Int)) (hr : inI (x * m)) (kk : SS Γ pc' L (zI (x * m) :: st) h k n) : SS Γ pc L (zI y :: zI x :: st) h k n := by
  obtain ⟨p, l, e, R, s, m9, args, below, meth, c, A, D, Q0, X0, mc0, ms0, ρ0, h0⟩ := Γ
  obtain ⟨hx, hb, -⟩ := hΓ
  subst hp; subst hy; subst hm
  intro ρ ls H locs hl hS
  have h9 := kk ρ ls H locs hl (hS.tl.tl.cons hr)
  rw [List.map_cons, zVal_I, ← iO_shl hS.tl.hd h1 hq hr] at h9
  exact lv_ishl hx hb hd h9
theorem zs_ishr {x y m : Int} (q : Nat) (hΓ : Ctx Γ l9 cc own nm nL ret Q X d mc ms) (hd : decode cc pc = .ok (.ishr, 1)) (hp : pc + 1 = pc') (hq : q < 32) (hy : y = (q : Int)) (hm : m = ((2 ^ q : Nat) : Int)) (kk : SS Γ pc' L (zI (x / m) :: st) h k n) : SS Γ pc L (zI y :: zI x :: st) h k n := by
  obtain ⟨p, l, e, R, s, m9, args, below, meth, c, A, D, Q0, X0, mc0, ms0, ρ0, h0⟩ := Γ
  obtain ⟨hx, hb, -⟩ := hΓ
  subst hp; subst hy; subst hm
  intro ρ ls H locs hl hS
  have wx : inI x := hS.tl.hd
  have h9 := kk ρ ls H locs hl (hS.tl.tl.cons (inI_shr wx))
  rw [List.map_cons, zVal_I, ← iO_shr wx hq] at h9
  exact lv_ishr hx hb hd h9
theorem zs_i2b {x : Int} (hΓ : Ctx Γ l9 cc own nm nL ret Q X d mc ms) (hd : decode cc pc = .ok (.i2b, 1)) (hp : pc + 1 = pc') (kk : SS Γ pc' L (zI (i8 x) :: st) h k n) : SS Γ pc L (zI x :: st) h k n := by
  obtain ⟨p, l, e, R, s, m, args, below, meth, c, A, D, Q0, X0, mc0, ms0, ρ0, h0⟩ := Γ
  obtain ⟨hx, hb, -⟩ := hΓ
  subst hp
  intro ρ ls H locs hl hS
  exact lv_i2b hx hb hd (iO_i2b hS.hd) (kk ρ ls H locs hl (hS.tl.cons (inI_i8 x)))
theorem zs_i2c {x : Int} (hΓ : Ctx Γ l9 cc own nm nL ret Q X d mc ms) (hd : decode cc pc = .ok (.i2c, 1)) (hp : pc + 1 = pc') (kk : SS Γ pc' L (zI (x % 65536) :: st) h k n) : SS Γ pc L (zI x :: st) h k n := by
  obtain ⟨p, l, e, R, s, m, args, below, meth, c, A, D, Q0, X0, mc0, ms0, ρ0, h0⟩ := Γ
  obtain ⟨hx, hb, -⟩ := hΓ
  subst hp
  intro ρ ls H locs hl hS
  exact lv_i2c hx hb hd (iO_i2c hS.hd) (kk ρ ls H locs hl (hS.tl.cons (inI_mod (by decide) (by decide))))
theorem zs_i2l {x : Int} (hΓ : Ctx Γ l9 cc own nm nL ret Q X d mc ms) (hd : decode cc pc = .ok (.i2l, 1)) (hp : pc + 1 = pc') (kk : SS Γ pc' L (zL x :: st) h k n) : SS Γ pc L (zI x :: st) h k n := by
  obtain ⟨p, l, e, R, s, m, args, below, meth, c, A, D, Q0, X0, mc0, ms0, ρ0, h0⟩ := Γ
  obtain ⟨hx, hb, -⟩ := hΓ
  subst hp
  intro ρ ls H locs hl hS
  exact lv_i2l hx hb hd (iO_long hS.hd) (kk ρ ls H locs hl (hS.tl.cons (inI_L hS.hd)))
def zCmp (x y : Int) : Int := if x < y then -1 else if x = y then 0 else 1
theorem inI_cmp (x y : Int) : inI (zCmp x y) := by
  unfold zCmp
  split
  · exact ⟨by decide, by decide⟩
  · split
    · exact ⟨by decide, by decide⟩
    · exact ⟨by decide, by decide⟩
theorem zs_lcmp {x y : Int} (hΓ : Ctx Γ l9 cc own nm nL ret Q X d mc ms) (hd : decode cc pc = .ok (.lcmp, 1)) (hp : pc + 1 = pc') (kk : SS Γ pc' L (zI (zCmp x y) :: st) h k n) : SS Γ pc L (zL y :: zL x :: st) h k n := by
  obtain ⟨p, l, e, R, s, m, args, below, meth, c, A, D, Q0, X0, mc0, ms0, ρ0, h0⟩ := Γ
  obtain ⟨hx, hb, -⟩ := hΓ
  subst hp
  intro ρ ls H locs hl hS
  have wy : inL y := hS.hd
  have wx : inL x := hS.tl.hd
  have h9 := kk ρ ls H locs hl (hS.tl.tl.cons (inI_cmp x y))
  have e1 : lg_cmp (lO x) (lO y) = iO (zCmp x y) := by
    unfold lg_cmp zCmp
    by_cases c1 : x < y
    · have c2 : ¬ lO y < lO x := fun z => by have := (lO_lt wy wx).mp z; omega
      have c4 : ¬ lO x = lO y := fun z => by have := (lO_eq wx wy).mp z; omega
      rw [if_pos c1, if_neg c2, if_neg c4]
      decide
    · by_cases c3 : x = y
      · have c2 : ¬ lO y < lO x := fun z => by have := (lO_lt wy wx).mp z; omega
        rw [if_neg c1, if_pos c3, if_neg c2, if_pos (by rw [c3])]
        decide
      · have c2 : lO y < lO x := (lO_lt wy wx).mpr (by omega)
        rw [if_neg c1, if_neg c3, if_pos c2]
        decide
  rw [List.map_cons, zVal_I, ← e1] at h9
  exact W.lcmp hx hb hd h9
/-! the operand stack -/
theorem zs_dupI {x : Int} (hΓ : Ctx Γ l9 cc own nm nL ret Q X d mc ms) (hd : decode cc pc = .ok (.dup, 1)) (hp : pc + 1 = pc') (kk : SS Γ pc' L (zI x :: zI x :: st) h k n) : SS Γ pc L (zI x :: st) h k n := by
  obtain ⟨p, l, e, R, s, m, args, below, meth, c, A, D, Q0, X0, mc0, ms0, ρ0, h0⟩ := Γ
  obtain ⟨hx, hb, -⟩ := hΓ
  subst hp
  intro ρ ls H locs hl hS
  exact lv_dup hx hb hd rfl (kk ρ ls H locs hl (hS.cons hS.hd))
theorem zcat_R (ρ : zNm → Nat) (r : Option zNm) : (zVal ρ (zR r)).category = 1 := zVal_cat ρ (zR r)
theorem zs_dup {r : Option zNm} (hΓ : Ctx Γ l9 cc own nm nL ret Q X d mc ms) (hd : decode cc pc = .ok (.dup, 1)) (hp : pc + 1 = pc') (kk : SS Γ pc' L (zR r :: zR r :: st) h k n) : SS Γ pc L (zR r :: st) h k n := by
  obtain ⟨p, l, e, R, s, m, args, below, meth, c, A, D, Q0, X0, mc0, ms0, ρ0, h0⟩ := Γ
  obtain ⟨hx, hb, -⟩ := hΓ
  subst hp
  intro ρ ls H locs hl hS
  exact lv_dup hx hb hd (zcat_R ρ r) (kk ρ ls H locs hl (hS.cons hS.hd))
theorem zs_popI {x : Int} (hΓ : Ctx Γ l9 cc own nm nL ret Q X d mc ms) (hd : decode cc pc = .ok (.pop, 1)) (hp : pc + 1 = pc') (kk : SS Γ pc' L st h k n) : SS Γ pc L (zI x :: st) h k n := by
  obtain ⟨p, l, e, R, s, m, args, below, meth, c, A, D, Q0, X0, mc0, ms0, ρ0, h0⟩ := Γ
  obtain ⟨hx, hb, -⟩ := hΓ
  subst hp
  intro ρ ls H locs hl hS
  exact lv_pop hx hb hd rfl (kk ρ ls H locs hl hS.tl)
theorem zs_pop {r : Option zNm} (hΓ : Ctx Γ l9 cc own nm nL ret Q X d mc ms) (hd : decode cc pc = .ok (.pop, 1)) (hp : pc + 1 = pc') (kk : SS Γ pc' L st h k n) : SS Γ pc L (zR r :: st) h k n := by
  obtain ⟨p, l, e, R, s, m, args, below, meth, c, A, D, Q0, X0, mc0, ms0, ρ0, h0⟩ := Γ
  obtain ⟨hx, hb, -⟩ := hΓ
  subst hp
  intro ρ ls H locs hl hS
  exact lv_pop hx hb hd (zcat_R ρ r) (kk ρ ls H locs hl hS.tl)
/-- an int over a reference -/
theorem zs_dup_x1 {x : Int} {r : Option zNm} (hΓ : Ctx Γ l9 cc own nm nL ret Q X d mc ms) (hd : decode cc pc = .ok (.dup_x1, 1)) (hp : pc + 1 = pc') (kk : SS Γ pc' L (zI x :: zR r :: zI x :: st) h k n) : SS Γ pc L (zI x :: zR r :: st) h k n := by
  obtain ⟨p, l, e, R, s, m, args, below, meth, c, A, D, Q0, X0, mc0, ms0, ρ0, h0⟩ := Γ
  obtain ⟨hx, hb, -⟩ := hΓ
  subst hp
  intro ρ ls H locs hl hS
  exact lv_dup_x1 hx hb hd rfl (zcat_R ρ r) (kk ρ ls H locs hl ((hS.tl.tl.cons hS.hd).cons hS.tl.hd |>.cons hS.hd))
/-- an int over a reference, both again -/
theorem zs_dup2 {x : Int} {r : Option zNm} (hΓ : Ctx Γ l9 cc own nm nL ret Q X d mc ms) (hd : decode cc pc = .ok (.dup2, 1)) (hp : pc + 1 = pc') (kk : SS Γ pc' L (zI x :: zR r :: zI x :: zR r :: st) h k n) : SS Γ pc L (zI x :: zR r :: st) h k n := by
  obtain ⟨p, l, e, R, s, m, args, below, meth, c, A, D, Q0, X0, mc0, ms0, ρ0, h0⟩ := Γ
  obtain ⟨hx, hb, -⟩ := hΓ
  subst hp
  intro ρ ls H locs hl hS
  exact lv_dup2_11 hx hb hd rfl (zcat_R ρ r) (kk ρ ls H locs hl ((hS.cons hS.tl.hd).cons hS.hd))
end ZR
