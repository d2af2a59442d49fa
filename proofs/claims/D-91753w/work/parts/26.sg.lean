/-! THE NAMED HEAP, part G: calls -/
set_option maxRecDepth 100000
theorem zA_sub {D : va_G} {A : Nat → Prop} {ρ0 ρ : zNm → Nat} {h0 h : zH} {H0 H : Heap} (hE : zEnd D A ρ0 h0 ρ h H0 H) (hA : ∀ q : Nat, H0.size ≤ q → A q) : ∀ q, zA ρ h H.size q → A q := by
  intro q hq
  rcases hq with ⟨a, h1, h2, h3⟩ | h1
  · rw [← h3]; exact hE.2.2.2.2.1 a h1 h2
  · exact hA q (Nat.le_trans hE.2.2.2.2.2.1 h1)
theorem zEnd.after {D : va_G} {A : Nat → Prop} {ρ0 ρ ρ' : zNm → Nat} {h0 h h' : zH} {H0 H H' : Heap} (hE : zEnd D A ρ0 h0 ρ h H0 H) (hA : ∀ q : Nat, H0.size ≤ q → A q) (hE' : zEnd D (zA ρ h H.size) ρ h ρ' h' H H') : zEnd D A ρ0 h0 ρ' h' H0 H' := by
  have hsub := zA_sub hE hA
  obtain ⟨e1, e2, e3, e4, e5, e6, e7⟩ := hE
  obtain ⟨f1, f2, f3, f4, f5, f6, f7⟩ := hE'
  exact ⟨f1, f2, f3, e4.tr f4, fun a h1 h2 => hsub _ (f5 a h1 h2), Nat.le_trans e6 f6, fun q h1 h2 => (f7 q (Nat.lt_of_lt_of_le h1 e6) (fun z => h2 (hsub q z))).trans (e7 q h1 h2)⟩
theorem zNw_warm {s U : State} (hW : s.WarmedH U.vm) (hK : ∀ w ∈ zNw, va_Nw w s) : ∀ w ∈ zNw, va_Nw w U := by
  intro w hw
  have h1 := hK w hw
  have h2 : zNwOK w = true := (List.mem_filter.mp hw).2
  cases w <;> first | (cases h2; done) | exact va_Nw.warmF hW h1 | exact va_Nw.warmM hW h1 | exact va_Nw.warmC hW h1
theorem zNw_same {s U : State} (hv : s.vm = U.vm) (hK : ∀ w ∈ zNw, va_Nw w s) : ∀ w ∈ zNw, va_Nw w U := by
  intro w hw
  have h1 := hK w hw
  have h2 : zNwOK w = true := (List.mem_filter.mp hw).2
  cases w <;> first | (cases h2; done) | exact va_Nw.same rfl hv h1
/-- what is known of the tables, in a state warmed from s -/
theorem zKn.warm {D : va_G} {A : Nat → Prop} {ρ0 ρ : zNm → Nat} {h0 h : zH} {s U : State} {H : Heap} (hK : zKn D ρ0 A h0 s) (hE : zEnd D A ρ0 h0 ρ h s.heap H) (hA : ∀ q : Nat, s.heap.size ≤ q → A q) (hU : U.heap = H) (hW : s.WarmedH U.vm) : zKn D ρ (zA ρ h H.size) h U := by
  have hsub := zA_sub hE hA
  obtain ⟨k1, k2, k3, k4, k5, k6, k7⟩ := hK
  have hkept : ∀ a : Nat, a < s.heap.size → ¬ A a → U.heap[a]? = s.heap[a]? := fun a h1 h2 => by rw [hU]; exact hE.2.2.2.2.2.2 a h1 h2
  refine ⟨va_K.moved hW.alike k1, zNw_warm hW k2, fun q hq => ?_, fun q hq => ?_, fun C hC => va_AO.moved hW.alike (k5 C hC), ?_, ?_⟩
  · obtain ⟨z1, z2⟩ := k3 q hq
    refine ⟨?_, z2.keep hE.2.2.2.1.1⟩
    rw [zVal_move z2 hE.2.2.2.1.2]
    exact (va_Z.kept (va_Z.moved hW.alike z1) hkept).narrow hsub
  · obtain ⟨z1, z2⟩ := k4 q hq
    refine ⟨?_, hE.2.2.2.1.1.ne z2⟩
    rw [hE.2.2.2.1.2 _ z2]
    exact vk_R.warm hW z1
  · exact vx_Zq.narrow (vx_Zq.kept (vx_Zq.moved hW.alike k6) hkept) hsub
  · exact vx_Zq.narrow (vx_Zq.kept (vx_Zq.moved hW.alike k7) hkept) hsub
theorem zKn.same {D : va_G} {A : Nat → Prop} {ρ : zNm → Nat} {h : zH} {u U : State} (hv : u.vm = U.vm) (hh : U.heap = u.heap) (hK : zKn D ρ A h u) : zKn D ρ A h U := by
  have ha : u.vm.Alike U.vm := by rw [hv]; exact Vm.Alike.refl U.vm
  obtain ⟨k1, k2, k3, k4, k5, k6, k7⟩ := hK
  refine ⟨va_K.moved ha k1, zNw_same hv k2, fun q hq => ?_, fun q hq => ⟨vk_R.same hv.symm (k4 q hq).1, (k4 q hq).2⟩, fun C hC => va_AO.moved ha (k5 C hC), ?_, ?_⟩
  · rw [hh]; exact ⟨va_Z.moved ha (k3 q hq).1, (k3 q hq).2⟩
  · rw [hh]; exact vx_Zq.moved ha k6
  · rw [hh]; exact vx_Zq.moved ha k7
theorem zPre_blind {D : va_G} {ρ : zNm → Nat} {sz : Nat} {av : List zV} {h : zH} {l : List Value} : FrameBlind (va_Pc l (zPre D ρ sz av h)) := by
  intro a U g mk hp
  obtain ⟨h1, h2, h3, h4⟩ := hp
  exact ⟨h1, h2, zKn.same (u := U) rfl rfl h3, h4⟩
/-- places that a value takes -/
def zCs (st : List zV) : Nat := (st.map (fun v => match v with
  | .inr (.inl _) => 2
  | _ => 1)).sum
theorem zCs_eq (ρ : zNm → Nat) (st : List zV) : ((st.map (zVal ρ)).map fun v => v.category).sum = zCs st := by
  unfold zCs
  rw [List.map_map]
  congr 1
  apply List.map_congr_left
  intro v _
  exact zVal_cat ρ v
/-- a method that isn't a method handle's, of n parameters -/
def zMn (y : zMd) (n : Nat) : Prop := y.1.cls ≠ "java/lang/invoke/MethodHandle" ∧ y.1.cls ≠ "java/lang/invoke/VarHandle" ∧ (parseMethodDescriptor y.1.desc).map (fun d => d.parameters.length) = some n
/-- invokevirtual's words: of the own class, or of a nest mate -/
def zCV (own : String) (idx : Nat) (y : zMd) (n : Nat) : Prop := zMn y n ∧ (GoodIn lw_all (wsV own idx y.1.cls y.1 (ws_ y.1 y.2.1 y.2.2.1 y.2.2.2)) ∨ ∃ host, Cond.methodLinkNest own idx y.1 host ∈ zNw ∧ Cond.code y.1 y.2.1 y.2.2.1 y.2.2.2 ∈ lw_all ∧ Cond.initialized y.1.cls ∈ lw_all ∧ Cond.instanceMethod y.1 ∈ lw_all ∧ Cond.selects y.1.cls y.1 y.1 ∈ lw_all)
def zCS (own : String) (idx : Nat) (y : zMd) (n : Nat) : Prop := zMn y n ∧ (GoodIn lw_all (va_wsS own idx y.1 (ws_ y.1 y.2.1 y.2.2.1 y.2.2.2)) ∨ ∃ host, Cond.methodLinkNest own idx y.1 host ∈ zNw ∧ Cond.code y.1 y.2.1 y.2.2.1 y.2.2.2 ∈ lw_all ∧ Cond.initialized y.1.cls ∈ lw_all ∧ Cond.static y.1 ∈ lw_all)
def zCI (own : String) (idx : Nat) (y : zMd) (n : Nat) : Prop := zMn y n ∧ y.2.2.2 = none ∧ y.1.name = "<init>" ∧ Cond.code y.1 y.2.1 y.2.2.1 none ∈ lw_all ∧ Cond.initialized y.1.cls ∈ lw_all ∧ Cond.instanceMethod y.1 ∈ lw_all ∧ (Cond.methodLink own idx y.1 ∈ lw_all ∨ ∃ host, Cond.methodLinkNest own idx y.1 host ∈ zNw)
section ZC
variable {Γ : zG} {l9 : Launch} {cc : ByteArray} {own nm : String} {nL : Nat} {ret : Option FieldType} {Q : Option zV → zH → Prop} {X : zNm → zH → Prop} {d mc ms : Nat} {pc pc' : Nat} {L : List (Option zV)} {st : List zV} {h : zH} {k n : Nat}
theorem zw_call {p : Program} {l : Launch} {e : Env} {R : Room} {s : State} {m : MethodId} {args : Array Value} {below : List Frame} {meth : Method} {c : Code} {A : Nat → Prop} {D : va_G} {ρ0 ρ : zNm → Nat} {h0 : zH} {H : Heap} {locs : List Loc} {ls : Array Slot} {stk : List Value} {mc' ms' : Nat} {a9 : Array Value} {Q' : Option zV → zH → Prop} {X' : zNm → zH → Prop}
    (hr : vy_Run p l e R s m args below meth c H locs k n mc' ms' (F0 m pc ls stk) (st.map (zVal ρ)) (zQc D (zA ρ h H.size) ρ h Q' a9) (zXc D (zA ρ h H.size) ρ h X') (zA ρ h H.size)) (hS : zSt D A ρ0 h0 ρ L st h s.heap H locs) (hA : ∀ q : Nat, s.heap.size ≤ q → A q) (hl : lv_has ls c.maxLocals (zPr ρ L))
    (kk : ∀ r h', Q' r h' → zKeep h h' → SS (p, l, e, R, s, m, args, below, meth, c, A, D, Q, X, mc, ms, ρ0, h0) (pc + 3) L (r.toList ++ st) h' (k + mc') (n + ms')) (kx : ∀ a h', X' a h' → zKeep h h' → SX (p, l, e, R, s, m, args, below, meth, c, A, D, Q, X, mc, ms, ρ0, h0) pc L a h' (k + mc') (n + ms')) :
    W p l e R s m args below meth c H locs k n (vy_MQ below (zQc D A ρ0 h0 Q) (zXc D A ρ0 h0 X) args s mc ms A) (F0 m pc ls stk) := by
  intro T hT X9
  have hsub := zA_sub hS.1 hA
  rcases hr T hT X9 with ⟨v, st₀, t, T', L9, g0, g1, g2, g3, g4, ⟨r, h', ρ', e1, e2, e3, e4⟩, g6⟩ | ⟨q, st₀, t, T', L9, E, ce, g0, g1, g2, g3, g4, ⟨a, h', ρ', kd, N, r, e1, e2, e3, e4, e5, e6⟩, g6, g7, g8, g9⟩
  · rw [g0, ← g3] at e4
    have hE := hS.1.after hA e4
    have hρ : ∀ c, gT h c ≠ none → ρ' c = ρ c := e4.2.2.2.1.2
    have hk := e4.2.2.2.1.1
    cases e1
    have h9 := kk r h' e2 hk ρ' ls T'.heap (locs ++ L9) (zl_has hl (zPr_move hS.2.2.1 hρ)) ⟨hE, fun w hw => ?_, fun i w hw => (hS.2.2.1 i w hw).keep hk, fun z hz => ?_⟩ T' rfl g1
    · obtain ⟨t9, a1, b1⟩ := h9
      refine ⟨t9, g6 t9 ?_, b1⟩
      have e9 : (r.toList ++ st).map (zVal ρ') = (r.map (zVal ρ')).toList ++ st.map (zVal ρ) := by
        rw [List.map_append, zMap_move hS.2.1 hρ]
        congr 1
        cases r <;> rfl
      rw [e9] at a1
      exact a1
    · rcases List.mem_append.mp hw with q | q
      · exact e3 w (by cases r with
          | none => cases q
          | some x => rw [List.mem_singleton.mp q])
      · exact (hS.2.1 w q).keep hk
    · rcases List.mem_append.mp hz with q | q
      · exact hS.2.2.2 z q
      · exact hsub _ (g2 z q)
  · rw [g0, ← g3] at e6
    have hE := hS.1.after hA e6
    have hρ : ∀ c, gT h c ≠ none → ρ' c = ρ c := e6.2.2.2.1.2
    have hk := e6.2.2.2.1.1
    have h9 := kx a h' e1 hk ρ' ls T'.heap (locs ++ L9) (st.map (zVal ρ)) (zl_has hl (zPr_move hS.2.2.1 hρ)) ⟨hE, fun w hw => ?_, fun i w hw => (hS.2.2.1 i w hw).keep hk, fun z hz => ?_⟩ T' rfl g1
    · obtain ⟨t9, a1, b1⟩ := h9
      rw [e5] at a1
      exact ⟨t9, g9.trans a1, b1⟩
    · rw [List.mem_singleton.mp hw]
      intro b hb
      cases hb
      rw [e2]
      exact fun z => by cases z
    · rcases List.mem_append.mp hz with q | q
      · exact hS.2.2.2 z q
      · exact hsub _ (g2 z q)
theorem zCall_pre {D : va_G} {A : Nat → Prop} {ρ0 ρ : zNm → Nat} {h0 : zH} {s : State} {H : Heap} {locs : List Loc} {av : List zV} (hK : zKn D ρ0 A h0 s) (hA : ∀ q : Nat, s.heap.size ≤ q → A q) (hS : zSt D A ρ0 h0 ρ L st h s.heap H locs) (hav : ∀ v ∈ av, v ∈ st) : ∀ U : State, U.heap = H → s.WarmedH U.vm → va_Pc (av.map (zVal ρ)) (zPre D ρ H.size av h) (av.map (zVal ρ)).toArray U := by
  intro U hU hW
  exact ⟨rfl, by rw [hU], hK.warm hS.1 hA hU hW, by rw [hU]; exact hS.1.1, hS.1.2.1, hS.1.2.2.1, fun v hv => hS.2.1 v (hav v hv)⟩
theorem zs_callV {a : zNm} {y : zMd} {kd N idx n9 d' mc' ms' : Nat} {As stk : List zV} {Q' : Option zV → zH → Prop} {X' : zNm → zH → Prop} (hΓ : Ctx Γ l9 cc own nm nL ret Q X d mc ms) (hd : decode cc pc = .ok (.invokevirtual idx, 3)) (hp : pc + 3 = pc') (hC : zCV own idx y n9) (hcon : Con l9 y d' mc' ms' (zR (some a) :: As) h Q' X')
    (ha : gT h a = some (kd, N)) (hr : (zCl[kd]?).map (fun q => q.1) = some y.1.cls) (hn : As.length = n9) (hst : stk = As.reverse ++ zR (some a) :: st) (hcat : zCs st ≤ 8) (hd' : d' < d) (hL : y.2.2.1 ≤ 81) (hk : k + mc' ≤ mc) (hs : n + ms' ≤ ms)
    (kk : ∀ r h', Q' r h' → zKeep h h' → SS Γ pc' L (r.toList ++ st) h' (k + mc') (n + ms')) (kx : ∀ a h', X' a h' → zKeep h h' → SX Γ pc L a h' (k + mc') (n + ms')) : SS Γ pc L stk h k n := by
  obtain ⟨p, l, e, R, s, m, args, below, meth, c, A, D, Q0, X0, mc0, ms0, ρ0, h0⟩ := Γ
  obtain ⟨hx, hb, hml, hret, hlk, hown, hts, hA, hK, hnm, rfl, rfl, rfl, rfl, rfl, rfl⟩ := hΓ
  subst hp; subst hst
  intro ρ ls H locs hl hS
  have hSt : zSt D A ρ0 h0 ρ L st h s.heap H locs := hS.re fun v hv => hS.2.1 v (List.mem_append_right _ (List.mem_cons_of_mem _ hv))
  cases hr9 : zCl[kd]? with
  | none => rw [hr9] at hr; cases hr
  | some r =>
    rw [hr9] at hr
    have hcls : r.1 = y.1.cls := Option.some.inj hr
    obtain ⟨⟨cell, q1, q2, q3, -⟩, -⟩ := hS.1.1.obj ha hr9
    have hfc := (hK.1.1 kd r hr9).2.1
    have hrecv : ∃ cellB : Cell, H[ρ a]? = some cellB ∧ cellB.vm.isStatics = false ∧ s.vm.findClass y.1.cls = some cellB.cls := ⟨cell, q1, by rw [q3]; rfl, by rw [q2, ← hcls]; exact hfc⟩
    have hpre : PreV s H y.1.cls (ρ a) (va_Pc ((zR (some a) :: As).map (zVal ρ)) (zPre D ρ H.size (zR (some a) :: As) h)) (As.map (zVal ρ)) :=
      ⟨zPre_blind, hrecv, zCall_pre hK hA hS fun v hv => by
        rcases List.mem_cons.mp hv with e1 | e1
        · rw [e1]; exact List.mem_append_right _ List.mem_cons_self
        · exact List.mem_append_left _ (List.mem_reverse.mpr e1)⟩
    have hstk : (As.reverse ++ zR (some a) :: st).map (zVal ρ) = (As.map (zVal ρ)).reverse ++ .ref (ρ a) :: st.map (zVal ρ) := by
      rw [List.map_append, List.map_reverse]; rfl
    have hR : (zRm d' mc' ms').frames + 1 ≤ (zRm d mc0 ms0).frames ∧ 8 + (y.2.2.1 + 11) + (zRm d' mc' ms').locals ≤ (zRm d mc0 ms0).locals := by
      show d' + 1 ≤ d ∧ 8 + (y.2.2.1 + 11) + 100 * d' ≤ 100 * d
      omega
    refine zw_call (a9 := (Value.ref (ρ a) :: As.map (zVal ρ)).toArray) ?_ hSt hA hl kk kx
    obtain ⟨hmn, hC | ⟨host, c1, c2, c3, c4, c5⟩⟩ := hC
    · exact vy_runV (nL := c.maxLocals) (As := As.map (zVal ρ)) ⟨hx, hb, rfl, hown, hts⟩ (hcon D ρ H.size) (cwV n9 hts hC rfl rfl rfl ⟨rfl, hmn⟩ hR) hpre rfl (by rw [List.length_map]; exact hn) hl.1 hstk (by rw [zCs_eq]; show 2 * 0 + _ ≤ 8; omega) hd ⟨hk, hs⟩
    · exact vy_runVN (nL := c.maxLocals) (As := As.map (zVal ρ)) ⟨hx, hb, rfl, hown, hts⟩ (hcon D ρ H.size) ⟨va_cnB n9 hts (lw_meth c2) rfl rfl rfl (hK.2.1 _ c1) (hts _ c3) hmn hR, hts _ c4, hts _ c5⟩ hpre rfl (by rw [List.length_map]; exact hn) hl.1 hstk (by rw [zCs_eq]; show 2 * 0 + _ ≤ 8; omega) hd ⟨hk, hs⟩
theorem zs_callS {y : zMd} {idx n9 d' mc' ms' : Nat} {As stk : List zV} {Q' : Option zV → zH → Prop} {X' : zNm → zH → Prop} (hΓ : Ctx Γ l9 cc own nm nL ret Q X d mc ms) (hd : decode cc pc = .ok (.invokestatic idx, 3)) (hp : pc + 3 = pc') (hC : zCS own idx y n9) (hcon : Con l9 y d' mc' ms' As h Q' X')
    (hn : As.length = n9) (hst : stk = As.reverse ++ st) (hcat : zCs st ≤ 8) (hd' : d' < d) (hL : y.2.2.1 ≤ 81) (hk : k + mc' ≤ mc) (hs : n + ms' ≤ ms)
    (kk : ∀ r h', Q' r h' → zKeep h h' → SS Γ pc' L (r.toList ++ st) h' (k + mc') (n + ms')) (kx : ∀ a h', X' a h' → zKeep h h' → SX Γ pc L a h' (k + mc') (n + ms')) : SS Γ pc L stk h k n := by
  obtain ⟨p, l, e, R, s, m, args, below, meth, c, A, D, Q0, X0, mc0, ms0, ρ0, h0⟩ := Γ
  obtain ⟨hx, hb, hml, hret, hlk, hown, hts, hA, hK, hnm, rfl, rfl, rfl, rfl, rfl, rfl⟩ := hΓ
  subst hp; subst hst
  intro ρ ls H locs hl hS
  have hSt : zSt D A ρ0 h0 ρ L st h s.heap H locs := hS.re fun v hv => hS.2.1 v (List.mem_append_right _ hv)
  have hpre : PreS s H (va_Pc (As.map (zVal ρ)) (zPre D ρ H.size As h)) (As.map (zVal ρ)) :=
    ⟨zPre_blind, zCall_pre hK hA hS fun v hv => List.mem_append_left _ (List.mem_reverse.mpr hv)⟩
  have hstk : (As.reverse ++ st).map (zVal ρ) = (As.map (zVal ρ)).reverse ++ st.map (zVal ρ) := by
    rw [List.map_append, List.map_reverse]
  have hR : (zRm d' mc' ms').frames + 1 ≤ (zRm d mc0 ms0).frames ∧ 8 + (y.2.2.1 + 11) + (zRm d' mc' ms').locals ≤ (zRm d mc0 ms0).locals := by
    show d' + 1 ≤ d ∧ 8 + (y.2.2.1 + 11) + 100 * d' ≤ 100 * d
    omega
  refine zw_call (a9 := (As.map (zVal ρ)).toArray) ?_ hSt hA hl kk kx
  obtain ⟨hmn, hC | ⟨host, c1, c2, c3, c4⟩⟩ := hC
  · exact vy_runS (nL := c.maxLocals) (As := As.map (zVal ρ)) ⟨hx, hb, rfl, hown, hts⟩ (hcon D ρ H.size) (va_cwS n9 hts hC rfl rfl rfl hmn hR) hpre rfl (by rw [List.length_map]; exact hn) hl.1 hstk (by rw [zCs_eq]; show 2 * 0 + _ ≤ 8; omega) hd ⟨hk, hs⟩
  · exact vy_runSN (nL := c.maxLocals) (As := As.map (zVal ρ)) ⟨hx, hb, rfl, hown, hts⟩ (hcon D ρ H.size) ⟨va_cnB n9 hts (lw_meth c2) rfl rfl rfl (hK.2.1 _ c1) (hts _ c3) hmn hR, hts _ c4, trivial⟩ hpre rfl (by rw [List.length_map]; exact hn) hl.1 hstk (by rw [zCs_eq]; show 2 * 0 + _ ≤ 8; omega) hd ⟨hk, hs⟩
theorem zs_callI {a : zNm} {y : zMd} {idx n9 d' mc' ms' : Nat} {As stk : List zV} {Q' : Option zV → zH → Prop} {X' : zNm → zH → Prop} (hΓ : Ctx Γ l9 cc own nm nL ret Q X d mc ms) (hd : decode cc pc = .ok (.invokespecial idx, 3)) (hp : pc + 3 = pc') (hC : zCI own idx y n9) (hcon : Con l9 y d' mc' ms' (zR (some a) :: As) h Q' X')
    (hn : As.length = n9) (hst : stk = As.reverse ++ zR (some a) :: st) (hcat : zCs st ≤ 8) (hd' : d' < d) (hL : y.2.2.1 ≤ 81) (hk : k + mc' ≤ mc) (hs : n + ms' ≤ ms)
    (kk : ∀ r h', Q' r h' → zKeep h h' → SS Γ pc' L (r.toList ++ st) h' (k + mc') (n + ms')) (kx : ∀ a h', X' a h' → zKeep h h' → SX Γ pc L a h' (k + mc') (n + ms')) : SS Γ pc L stk h k n := by
  obtain ⟨p, l, e, R, s, m, args, below, meth, c, A, D, Q0, X0, mc0, ms0, ρ0, h0⟩ := Γ
  obtain ⟨hx, hb, hml, hret, hlk, hown, hts, hA, hK, hnm, rfl, rfl, rfl, rfl, rfl, rfl⟩ := hΓ
  subst hp; subst hst
  intro ρ ls H locs hl hS
  have hSt : zSt D A ρ0 h0 ρ L st h s.heap H locs := hS.re fun v hv => hS.2.1 v (List.mem_append_right _ (List.mem_cons_of_mem _ hv))
  obtain ⟨⟨yn, yb, yL, yr⟩, hy9⟩ : ∃ q, q = y := ⟨_, rfl⟩
  subst hy9
  obtain ⟨hmn, hr0, hy1, c2, c3, c4, hC⟩ := hC
  dsimp only at hr0 hy1 c2 c3 c4 hC hL
  subst hr0
  have hpre : PreS s H (va_Pc ((zR (some a) :: As).map (zVal ρ)) (zPre D ρ H.size (zR (some a) :: As) h)) (.ref (ρ a) :: As.map (zVal ρ)) :=
    ⟨zPre_blind, zCall_pre hK hA hS fun v hv => by
      rcases List.mem_cons.mp hv with e1 | e1
      · rw [e1]; exact List.mem_append_right _ List.mem_cons_self
      · exact List.mem_append_left _ (List.mem_reverse.mpr e1)⟩
  have hstk : (As.reverse ++ zR (some a) :: st).map (zVal ρ) = (As.map (zVal ρ)).reverse ++ .ref (ρ a) :: st.map (zVal ρ) := by
    rw [List.map_append, List.map_reverse]; rfl
  have hR : (zRm d' mc' ms').frames + 1 ≤ (zRm d mc0 ms0).frames ∧ 8 + (yL + 11) + (zRm d' mc' ms').locals ≤ (zRm d mc0 ms0).locals := by
    show d' + 1 ≤ d ∧ 8 + (yL + 11) + 100 * d' ≤ 100 * d
    omega
  refine zw_call (a9 := (Value.ref (ρ a) :: As.map (zVal ρ)).toArray) ?_ hSt hA hl kk kx
  rcases hC with c1 | ⟨host, c1⟩
  · exact vy_runI (nL := c.maxLocals) (As := As.map (zVal ρ)) ⟨hx, hb, rfl, hown, hts⟩ (hcon D ρ H.size) (cwI n9 hts (lw_meth c2) rfl rfl rfl (hts _ c3) (hts _ c1) (hts _ c4) hy1 hmn hR) hpre rfl (by rw [List.length_map]; exact hn) hl.1 hstk (by rw [zCs_eq]; show 2 * 0 + _ ≤ 8; omega) hd ⟨hk, hs⟩
  · exact vy_runIN (nL := c.maxLocals) (As := As.map (zVal ρ)) ⟨hx, hb, rfl, hown, hts⟩ (hcon D ρ H.size) ⟨va_cnB n9 hts (lw_meth c2) rfl rfl rfl (hK.2.1 _ c1) (hts _ c3) hmn hR, hy1, hts _ c4⟩ hpre rfl (by rw [List.length_map]; exact hn) hl.1 hstk (by rw [zCs_eq]; show 2 * 0 + _ ≤ 8; omega) hd ⟨hk, hs⟩
/-- Object.<init> -/
theorem zs_objInit {a : zNm} {idx : Nat} (hΓ : Ctx Γ l9 cc own nm nL ret Q X d mc ms) (hd : decode cc pc = .ok (.invokespecial idx, 3)) (hp : pc + 3 = pc') (h1 : Cond.methodLink own idx Lib.objectInit ∈ lw_all) (h2 : Cond.instanceMethod Lib.objectInit ∈ lw_all) (h3 : Cond.code Lib.objectInit ⟨#[0xb1]⟩ 1 none ∈ lw_all) (hcat : zCs st ≤ 8) (hd1 : 1 ≤ d)
    (kk : SS Γ pc' L st h k n) : SS Γ pc L (zR (some a) :: st) h k n := by
  obtain ⟨p, l, e, R, s, m, args, below, meth, c, A, D, Q0, X0, mc0, ms0, ρ0, h0⟩ := Γ
  obtain ⟨hx, hb, hml, hret, hlk, hown, hts, hA, hK, hnm, rfl, rfl, rfl, rfl, rfl, rfl⟩ := hΓ
  subst hp
  intro ρ ls H locs hl hS
  refine W.objInit hx hb hown (hts _ h1) (hts _ h2) (hts _ h3) rfl hl.1 rfl hd (by show 1 ≤ d; exact hd1) (by rw [zCs_eq]; show 2 * 0 + _ + 12 ≤ 100 * d; omega) (kk ρ ls H locs hl hS.tl)
end ZC
