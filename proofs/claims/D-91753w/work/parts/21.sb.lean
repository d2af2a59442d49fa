/-! THE NAMED HEAP, part B: kinds, what a heap holds, contracts, the judgement SS -/
set_option maxRecDepth 100000
/-- the classes by their kind's number -/
def zCl : List vw_C := [(RX1, TX1, 23), (RX2, TX2, 18), (RX3, TX3, 4), (RX4, TX4, 2), (RX5, TX5, 63), (RX6, TX6, 12), (RX7, TX7, 8), (RX8, TX8, 3), (RX9, TX9, 5), (RX10, TX10, 6), (RX11, TX11, 7), (RJ2, TJ2, 3), (RJ3, TJ3, 4), (RJ10, TJ10, 4), (RJ20, TJ20, 6)]
def zTs : List (Nat → FieldType) := [tyX1, tyX2, tyX3, tyX4, tyX5, tyX6, tyX7, tyX8, tyX9, tyX10, tyX11, tyJ2, tyJ3, tyJ10, tyJ20]
/-- the arrays' elements, by kind - 100 -/
def zAt : List FieldType := [.int, .boolean, .byte, .long, .object "java/lang/Object", .object "GrassPark$Ground", .object "GrassPark$Habit", .array .int, .array .boolean]
def zTy (kd k : Nat) : FieldType := if kd < 100 then ((zTs[kd]?).getD (fun _ => .int)) k else (zAt[kd - 100]?).getD .int
def zTys (D : va_G) : List (ClassId × FieldType) := (List.range 9).map (fun j => (D.1 (100 + j), (zAt[j]?).getD .int))
theorem zTys_at (D : va_G) {j : Nat} (hj : j < 9) : (zTys D)[j]? = some (D.1 (100 + j), zTy (100 + j) 0) := by
  unfold zTys
  rw [List.getElem?_map, List.getElem?_range hj]
  have : zTy (100 + j) 0 = (zAt[j]?).getD .int := by
    unfold zTy
    rw [if_neg (by omega), Nat.add_sub_cancel_left]
  rw [this]
  rfl
def zClOK (kd : Nat) (q : vw_C) : Prop := (∀ w ∈ u_ws q.1 q.2.1 q.2.2, w ∈ lw_all) ∧ (∀ k, k < q.2.2 → parseFieldDescriptor (q.2.1 k).2.2.1 = some (zTy kd k)) ∧ (∀ a, a < q.2.2 → ∀ b, b < q.2.2 → a ≠ b → (q.2.1 a).2.1 ≠ (q.2.1 b).2.1) ∧ kd < 100
theorem zcl_ok : ∀ (kd : Nat) (q : vw_C), zCl[kd]? = some q → zClOK kd q := by
  intro kd q hq
  match kd, hq with
  | 0, hq => cases hq; exact ⟨in_X1, tyX1_ok, nmX1, by decide⟩
  | 1, hq => cases hq; exact ⟨in_X2, tyX2_ok, nmX2, by decide⟩
  | 2, hq => cases hq; exact ⟨in_X3, tyX3_ok, nmX3, by decide⟩
  | 3, hq => cases hq; exact ⟨in_X4, tyX4_ok, nmX4, by decide⟩
  | 4, hq => cases hq; exact ⟨in_X5, tyX5_ok, nmX5, by decide⟩
  | 5, hq => cases hq; exact ⟨in_X6, tyX6_ok, nmX6, by decide⟩
  | 6, hq => cases hq; exact ⟨in_X7, tyX7_ok, nmX7, by decide⟩
  | 7, hq => cases hq; exact ⟨in_X8, tyX8_ok, nmX8, by decide⟩
  | 8, hq => cases hq; exact ⟨in_X9, tyX9_ok, nmX9, by decide⟩
  | 9, hq => cases hq; exact ⟨in_X10, tyX10_ok, nmX10, by decide⟩
  | 10, hq => cases hq; exact ⟨in_X11, tyX11_ok, nmX11, by decide⟩
  | 11, hq => cases hq; exact ⟨in_J2, tyJ2_ok, nmJ2, by decide⟩
  | 12, hq => cases hq; exact ⟨in_J3, tyJ3_ok, nmJ3, by decide⟩
  | 13, hq => cases hq; exact ⟨in_J10, tyJ10_ok, nmJ10, by decide⟩
  | 14, hq => cases hq; exact ⟨in_J20, tyJ20_ok, nmJ20, by decide⟩
  | kd + 15, hq => simp [zCl] at hq
/-- int-like (0), long (1), reference (2) -/
def zCat (t : FieldType) : Nat := match t with
  | .long => 1
  | .object _ => 2
  | .array _ => 2
  | _ => 0
def zEnc (ρ : zNm → Nat) (t : FieldType) (x : Int) (r : Option zNm) : Value := if zCat t = 2 then va_rf (r.map ρ) else if zCat t = 1 then .long (lO x) else .int (iO x)
theorem zEnc_i {ρ : zNm → Nat} {t : FieldType} {x : Int} {r : Option zNm} (h : zCat t = 0) : zEnc ρ t x r = .int (iO x) := by simp [zEnc, h]
theorem zEnc_l {ρ : zNm → Nat} {t : FieldType} {x : Int} {r : Option zNm} (h : zCat t = 1) : zEnc ρ t x r = .long (lO x) := by simp [zEnc, h]
theorem zEnc_r {ρ : zNm → Nat} {t : FieldType} {x : Int} {r : Option zNm} (h : zCat t = 2) : zEnc ρ t x r = va_rf (r.map ρ) := by simp [zEnc, h]
def zVal (ρ : zNm → Nat) (v : zV) : Value := match v with
  | .inl x => .int (iO x)
  | .inr (.inl x) => .long (lO x)
  | .inr (.inr r) => va_rf (r.map ρ)
theorem zVal_I (ρ : zNm → Nat) (x : Int) : zVal ρ (zI x) = .int (iO x) := rfl
theorem zVal_L (ρ : zNm → Nat) (x : Int) : zVal ρ (zL x) = .long (lO x) := rfl
theorem zVal_R (ρ : zNm → Nat) (a : zNm) : zVal ρ (zR (some a)) = .ref (ρ a) := rfl
theorem zVal_N (ρ : zNm → Nat) : zVal ρ (zR none) = .null := rfl
theorem zVal_r (ρ : zNm → Nat) (r : Option zNm) : zVal ρ (zR r) = va_rf (r.map ρ) := rfl
/-- a name's cell -/
def zAt1 (D : va_G) (ρ : zNm → Nat) (h : zH) (H : Heap) (a : zNm) (kd n : Nat) : Prop :=
  (∃ q : vw_C, zCl[kd]? = some q ∧ n = q.2.2 ∧ t_OB (ρ a) (D.1 kd) q.2.2 (D.2 kd) H (fun k => zEnc ρ (zTy kd k) (gI h a k) (gP h a k))) ∨
  (∃ j : Nat, kd = 100 + j ∧ j < 9 ∧ H[ρ a]? = some (arrV (D.1 kd) n (fun k => zEnc ρ (zTy kd 0) (gI h a k) (gP h a k)))) ∨
  (200 ≤ kd ∧ ρ a < H.size)
def zRep (D : va_G) (ρ : zNm → Nat) (h : zH) (H : Heap) : Prop := ∀ (a : zNm) (kd n : Nat), gT h a = some (kd, n) → zAt1 D ρ h H a kd n
def zInj (ρ : zNm → Nat) (h : zH) : Prop := ∀ a b : zNm, gT h a ≠ none → gT h b ≠ none → ρ a = ρ b → a = b
def zWfV (h : zH) (v : zV) : Prop := match v with
  | .inl x => inI x
  | .inr (.inl x) => inL x
  | .inr (.inr r) => ∀ b : zNm, r = some b → gT h b ≠ none
def zWfH (h : zH) : Prop := ∀ (a : zNm) (kd n : Nat), gT h a = some (kd, n) → (∀ k : Nat, k < n → (zCat (zTy kd k) = 0 → inI (gI h a k)) ∧ (zCat (zTy kd k) = 1 → inL (gI h a k)) ∧ (zCat (zTy kd k) = 2 → ∀ b : zNm, gP h a k = some b → gT h b ≠ none)) ∧ (∀ k : Int, k < 0 ∨ (n : Int) ≤ k → gI h a k = 0 ∧ gP h a k = none)
/-- names stay what they are; a frozen cell (its first number is negative) keeps what it holds -/
def zKeep (h0 h : zH) : Prop := ∀ (a : zNm) (t : Nat × Nat), gT h0 a = some t → gT h a = some t ∧ (a.1 < 0 → ∀ k : Int, gI h a k = gI h0 a k ∧ gP h a k = gP h0 a k)
def zExt (ρ0 : zNm → Nat) (h0 : zH) (ρ : zNm → Nat) (h : zH) : Prop := zKeep h0 h ∧ ∀ a : zNm, gT h0 a ≠ none → ρ a = ρ0 a
theorem zKeep.rf (h : zH) : zKeep h h := fun _ _ e => ⟨e, fun _ _ => ⟨rfl, rfl⟩⟩
theorem zKeep.tr {h0 h1 h2 : zH} (a : zKeep h0 h1) (b : zKeep h1 h2) : zKeep h0 h2 := fun x t e => by
  obtain ⟨e1, f1⟩ := a x t e
  obtain ⟨e2, f2⟩ := b x t e1
  exact ⟨e2, fun hn k => ⟨(f2 hn k).1.trans (f1 hn k).1, (f2 hn k).2.trans (f1 hn k).2⟩⟩
theorem zKeep.ne {h0 h : zH} (hk : zKeep h0 h) {a : zNm} (e : gT h0 a ≠ none) : gT h a ≠ none := by
  cases q : gT h0 a with
  | none => exact absurd q e
  | some t => rw [(hk a t q).1]; exact fun z => by cases z
theorem zExt.rf (ρ : zNm → Nat) (h : zH) : zExt ρ h ρ h := ⟨zKeep.rf h, fun _ _ => rfl⟩
theorem zExt.tr {ρ0 ρ1 ρ2 : zNm → Nat} {h0 h1 h2 : zH} (a : zExt ρ0 h0 ρ1 h1) (b : zExt ρ1 h1 ρ2 h2) : zExt ρ0 h0 ρ2 h2 :=
  ⟨a.1.tr b.1, fun x e => (b.2 x (a.1.ne e)).trans (a.2 x e)⟩
theorem zWfV.keep {h0 h : zH} (hk : zKeep h0 h) {v : zV} (w : zWfV h0 v) : zWfV h v := by
  match v, w with
  | .inl x, w => exact w
  | .inr (.inl x), w => exact w
  | .inr (.inr r), w => exact fun b e => hk.ne (w b e)
/-- statics, by class, name, descriptor -/
def zSts : List (String × String × String × zV) := [("GrassPark$Ground", "EAST", "[I", zR (some (-1, 1))), ("GrassPark$Ground", "SOUTH", "[I", zR (some (-1, 2))), ("java/util/ArrayList", "DEFAULTCAPACITY_EMPTY_ELEMENTDATA", "[Ljava/lang/Object;", zR (some (-1, 3))), ("java/lang/String", "COMPACT_STRINGS", "Z", zI 1)]
/-- String constants: the class that loads it, its place there, its text, its name -/
def zStr : List (String × Nat × String × zNm) := []
/-- words that don't ride in the list: nest mates' links, castable -/
def zNwOK (w : Cond) : Bool := match w with
  | .fieldLinkNest .. => true
  | .methodLinkNest .. => true
  | .castable .. => true
  | _ => false
def zNw : List Cond := lw_tbl.filter zNwOK
theorem zNw_in {w : Cond} (h : w ∈ lw_tbl) (e : zNwOK w = true) : w ∈ zNw := List.mem_filter.mpr ⟨h, e⟩
def zKn (D : va_G) (ρ : zNm → Nat) (A : Nat → Prop) (h : zH) (U : State) : Prop :=
  va_K D zCl (zTys D) U ∧ (∀ w ∈ zNw, va_Nw w U) ∧ (∀ q ∈ zSts, va_Z q.1 q.2.1 q.2.2.1 (zVal ρ q.2.2.2) A U U.heap ∧ zWfV h q.2.2.2) ∧ (∀ q ∈ zStr, vk_R q.1 q.2.1 q.2.2.1 (ρ q.2.2.2) U ∧ gT h q.2.2.2 ≠ none) ∧
  (∀ C ∈ ["java/lang/Object", "GrassPark$Ground", "GrassPark$Habit"], va_AO C U) ∧ vx_Zq Bundle.tN "UNASSIGNED_STACK" Bundle.steD A U U.heap ∧ vx_Zq Bundle.tN "SUPPRESSED_SENTINEL" Bundle.listD A U U.heap
def zEnd (D : va_G) (A : Nat → Prop) (ρ0 : zNm → Nat) (h0 : zH) (ρ : zNm → Nat) (h : zH) (H0 H : Heap) : Prop :=
  zRep D ρ h H ∧ zInj ρ h ∧ zWfH h ∧ zExt ρ0 h0 ρ h ∧ (∀ a : zNm, gT h a ≠ none → 0 ≤ a.1 → A (ρ a)) ∧ H0.size ≤ H.size ∧ (∀ q : Nat, q < H0.size → ¬ A q → H[q]? = H0[q]?)
/-- which cells a call may write: those with a name that isn't frozen, and those that it makes -/
def zA (ρ : zNm → Nat) (h : zH) (sz : Nat) : Nat → Prop := fun q => (∃ a : zNm, gT h a ≠ none ∧ 0 ≤ a.1 ∧ ρ a = q) ∨ sz ≤ q
def zPre (D : va_G) (ρ : zNm → Nat) (sz : Nat) (av : List zV) (h : zH) : State → Prop := fun U =>
  U.heap.size = sz ∧ zKn D ρ (zA ρ h sz) h U ∧ zRep D ρ h U.heap ∧ zInj ρ h ∧ zWfH h ∧ ∀ v ∈ av, zWfV h v
def zQc (D : va_G) (A : Nat → Prop) (ρ0 : zNm → Nat) (h0 : zH) (Q : Option zV → zH → Prop) : Array Value → State → Outcome → State → Prop := fun _ st o t =>
  ∃ (r : Option zV) (h' : zH) (ρ' : zNm → Nat), o = .returned (r.map (zVal ρ')) ∧ Q r h' ∧ (∀ v, r = some v → zWfV h' v) ∧ zEnd D A ρ0 h0 ρ' h' st.heap t.heap
def zXc (D : va_G) (A : Nat → Prop) (ρ0 : zNm → Nat) (h0 : zH) (X : zNm → zH → Prop) : String → Addr → State → State → Prop := fun E q st t =>
  ∃ (a : zNm) (h' : zH) (ρ' : zNm → Nat) (kd n : Nat) (r : vw_C), X a h' ∧ gT h' a = some (kd, n) ∧ zCl[kd]? = some r ∧ E = r.1 ∧ ρ' a = q ∧ zEnd D A ρ0 h0 ρ' h' st.heap t.heap
abbrev zRm (d mc ms : Nat) : Room := { frames := d, cells := mc, slots := ms, locals := 100 * d }
/-- a method: its name, code, locals, answer -/
abbrev zMd : Type := MethodName × ByteArray × Nat × Option FieldType
/-- CONTRACT of a call: method y (words ws), arguments av, heap h: it returns r with a heap h' that Q holds of, or throws a, h' that X holds of; at most mc cells of ms places are made; d: the room's level -/
def ConG (l : Launch) (y : MethodName) (ws : List Cond) (d mc ms : Nat) (av : List zV) (h : zH) (Q : Option zV → zH → Prop) (X : zNm → zH → Prop) : Prop :=
  ∀ (D : va_G) (ρ : zNm → Nat) (sz : Nat), vy_Met l y ws (zRm d mc ms) (va_Pc (av.map (zVal ρ)) (zPre D ρ sz av h)) (zQc D (zA ρ h sz) ρ h Q) (zXc D (zA ρ h sz) ρ h X) mc ms (zA ρ h sz)
abbrev Con (l : Launch) (y : zMd) (d mc ms : Nat) (av : List zV) (h : zH) (Q : Option zV → zH → Prop) (X : zNm → zH → Prop) : Prop := ConG l y.1 (ws_ y.1 y.2.1 y.2.2.1 y.2.2.2) d mc ms av h Q X
def zNo : zNm → zH → Prop := fun _ _ => False
/-- what a frame's walk goes on in -/
abbrev zG : Type := Program × Launch × Env × Room × State × MethodId × Array Value × List Frame × Method × Code × (Nat → Prop) × va_G × (Option zV → zH → Prop) × (zNm → zH → Prop) × Nat × Nat × (zNm → Nat) × zH
def zPr (ρ : zNm → Nat) (L : List (Option zV)) : List (Nat × Value) := (List.range L.length).filterMap (fun i => match L[i]? with
  | some (some v) => some (i, zVal ρ v)
  | _ => none)
theorem zPr_mem {ρ : zNm → Nat} {L : List (Option zV)} {q : Nat × Value} : q ∈ zPr ρ L ↔ ∃ v, L[q.1]? = some (some v) ∧ q.2 = zVal ρ v := by
  unfold zPr
  rw [List.mem_filterMap]
  constructor
  · rintro ⟨i, hi, e⟩
    cases h : L[i]? with
    | none => rw [h] at e; cases e
    | some o =>
      cases o with
      | none => rw [h] at e; cases e
      | some v =>
        rw [h] at e
        cases e
        exact ⟨v, h, rfl⟩
  · rintro ⟨v, h1, h2⟩
    refine ⟨q.1, List.mem_range.mpr (List.getElem?_eq_some_iff.mp h1).1, ?_⟩
    rw [h1]
    show some (q.1, zVal ρ v) = some q
    rw [← h2]
def zSt (D : va_G) (A : Nat → Prop) (ρ0 : zNm → Nat) (h0 : zH) (ρ : zNm → Nat) (L : List (Option zV)) (st : List zV) (h : zH) (H0 H : Heap) (locs : List Loc) : Prop :=
  zEnd D A ρ0 h0 ρ h H0 H ∧ (∀ v ∈ st, zWfV h v) ∧ (∀ (i : Nat) (v : zV), L[i]? = some (some v) → zWfV h v) ∧ ∀ z ∈ locs, A z.base
/-- THE JUDGEMENT: from pc, with locals L, operand stack st, heap h, k cells and n places made so far, the frame comes to its end -/
def SS (Γ : zG) (pc : Nat) (L : List (Option zV)) (st : List zV) (h : zH) (k n : Nat) : Prop := match Γ with
  | (p, l, e, R, s, m, args, below, meth, c, A, D, Q, X, mc, ms, ρ0, h0) =>
    ∀ (ρ : zNm → Nat) (ls : Array Slot) (H : Heap) (locs : List Loc), lv_has ls c.maxLocals (zPr ρ L) → zSt D A ρ0 h0 ρ L st h s.heap H locs →
      W p l e R s m args below meth c H locs k n (vy_MQ below (zQc D A ρ0 h0 Q) (zXc D A ρ0 h0 X) args s mc ms A) (F0 m pc ls (st.map (zVal ρ)))
/-- .. with the object a thrown over the frame -/
def SX (Γ : zG) (pc : Nat) (L : List (Option zV)) (a : zNm) (h : zH) (k n : Nat) : Prop := match Γ with
  | (p, l, e, R, s, m, args, below, meth, c, A, D, Q, X, mc, ms, ρ0, h0) =>
    ∀ (ρ : zNm → Nat) (ls : Array Slot) (H : Heap) (locs : List Loc) (rest : List Value), lv_has ls c.maxLocals (zPr ρ L) → zSt D A ρ0 h0 ρ L [zR (some a)] h s.heap H locs →
      vx_W p l e R s m args below meth c H locs k n (vy_MQ below (zQc D A ρ0 h0 Q) (zXc D A ρ0 h0 X) args s mc ms A) (F0 m pc ls rest) (ρ a)
/-- what holds of a frame all through: its code cc of class own, nL locals, its answer ret, its end Q, X, its room -/
def Ctx (Γ : zG) (l9 : Launch) (cc : ByteArray) (own : String) (nm : String) (nL : Nat) (ret : Option FieldType) (Q9 : Option zV → zH → Prop) (X9 : zNm → zH → Prop) (d mc9 ms9 : Nat) : Prop := match Γ with
  | (p, l, e, R, s, m, args, below, meth, c, A, D, Q, X, mc, ms, ρ0, h0) =>
    p.tables.exec = Jvm.exec ∧ c.code = cc ∧ c.maxLocals = nL ∧ meth.sig.returnType = ret ∧ meth.locks = false ∧ s.vm.findClass own = some m.cls ∧ (∀ w ∈ lw_all, w.before args s = true) ∧ (∀ q : Nat, s.heap.size ≤ q → A q) ∧
    zKn D ρ0 A h0 s ∧ meth.name = nm ∧ l = l9 ∧ Q = Q9 ∧ X = X9 ∧ R = zRm d mc9 ms9 ∧ mc = mc9 ∧ ms = ms9
/-- no handler here -/
def NoH (Γ : zG) : Prop := match Γ with
  | (p, l, e, R, s, m, args, below, meth, c, A, D, Q, X, mc, ms, ρ0, h0) => ∀ x ∈ c.exceptionTable.toList, False
/-- the locals at the entry -/
def zL1 (v : zV) : List (Option zV) := match v with
  | .inl x => [some (zI x)]
  | .inr (.inl x) => [some (zL x), none]
  | .inr (.inr r) => [some (zR r)]
def zLs (av : List zV) : List (Option zV) := av.flatMap zL1
def zL0 (nL : Nat) (av : List zV) : List (Option zV) := zLs av ++ List.replicate (nL - (zLs av).length) none
