/-! THE TWIN, P: turns -/
set_option maxRecDepth 100000
abbrev isDraw (q : zLn) : Prop := q.1 = 5 ∧ q.2.1 = 6
/-- the text with the number of its first line that draws put at v -/
def txDraw (v : Int) : zTx → zTx
  | [] => []
  | q :: l => if isDraw q then (q.1, q.2.1, v, q.2.2.2) :: l else q :: txDraw v l
def txHas (tx : zTx) : Prop := ∃ q, q ∈ tx ∧ isDraw q
theorem txDraw_at {v : Int} : ∀ (tx : zTx) (n : Nat) (q : zLn), tx[n]? = some q → isDraw q → (∀ (j : Nat) (s : zLn), j < n → tx[j]? = some s → ¬ isDraw s) → txDraw v tx = tx.set n (q.1, q.2.1, v, q.2.2.2)
  | [], n, q, h, _, _ => by rw [List.getElem?_nil] at h; cases h
  | a :: l, n, q, h, hk, hn => by
    show (if isDraw a then (a.1, a.2.1, v, a.2.2.2) :: l else a :: txDraw v l) = _
    cases n with
    | zero =>
      rw [List.getElem?_cons_zero] at h
      cases h
      rw [if_pos hk]
      rfl
    | succ n =>
      rw [if_neg (hn 0 a (Nat.succ_pos n) rfl)]
      rw [List.getElem?_cons_succ] at h
      rw [txDraw_at l n q h hk (fun j s hj hs => hn (j + 1) s (by omega) (by rw [List.getElem?_cons_succ]; exact hs))]
      rfl
/-- the number of line n of text t is changed to v -/
theorem TxR.draw {C : zNm → Int → Prop} {h h' : zH} {t v : Int} {tx : zTx} {n : Nat} {q : zLn} (hX : TxR h t tx) (hS : Same C h h') (hC : ∀ k j, 9 ≤ k → k ≤ 17 → C (1, k) j → k = 12 ∧ j = 16 * t + n) (hv : gI h' (1, 12) (16 * t + n) = v) (hq : tx[n]? = some q) (hd : isDraw q) (hb : 0 ≤ v ∧ v ≤ 99) (hn : ∀ (j : Nat) (s : zLn), j < n → tx[j]? = some s → ¬ isDraw s) : TxR h' t (txDraw v tx) := by
  obtain ⟨x1, x2, x3⟩ := hX
  have e9 : ∀ k j, 9 ≤ k → k ≤ 17 → k ≠ 12 → gI h' (1, k) j = gI h (1, k) j := fun k j k1 k2 k3 => hS.2.2 _ _ fun z => k3 (hC k j k1 k2 z).1
  rw [txDraw_at tx n q hq hd hn]
  refine ⟨by rw [e9 9 t (by decide) (by decide) (by decide), x1, List.length_set], by rw [List.length_set]; exact x2, fun k s hk => ?_⟩
  by_cases e : k = n
  · subst e
    obtain ⟨hlt, -⟩ := List.getElem?_eq_some_iff.mp hq
    rw [List.getElem?_set_self hlt] at hk
    cases hk
    obtain ⟨l1, l2, l3, l4, l5, l6⟩ := x3 k q hq
    unfold LnR
    rw [e9 10 _ (by decide) (by decide) (by decide), e9 11 _ (by decide) (by decide) (by decide), e9 13 _ (by decide) (by decide) (by decide), e9 14 _ (by decide) (by decide) (by decide)]
    refine ⟨l1, l2, hv, l4, fun j s hs => ?_, ?_⟩
    · rw [e9 15 _ (by decide) (by decide) (by decide), e9 16 _ (by decide) (by decide) (by decide), e9 17 _ (by decide) (by decide) (by decide)]
      exact l5 j s hs
    · obtain ⟨w1, w2, w3, w4, w5⟩ := l6
      exact ⟨by show 0 ≤ v ∧ v ≤ 999; omega, w2, fun _ => hb.2, fun z => by rw [hd.1] at z; exact absurd z (by decide), w5⟩
  · rw [List.getElem?_set_ne (fun z => e z.symm)] at hk
    obtain ⟨l1, l2, l3, l4, l5, l6⟩ := x3 k s hk
    unfold LnR
    rw [e9 10 _ (by decide) (by decide) (by decide), e9 11 _ (by decide) (by decide) (by decide), e9 13 _ (by decide) (by decide) (by decide), e9 14 _ (by decide) (by decide) (by decide), hS.2.2 _ _ (fun z => by have := (hC 12 _ (by decide) (by decide) z).2; omega)]
    refine ⟨l1, l2, l3, l4, fun j s hs => ?_, l6⟩
    rw [e9 15 _ (by decide) (by decide) (by decide), e9 16 _ (by decide) (by decide) (by decide), e9 17 _ (by decide) (by decide) (by decide)]
    exact l5 j s hs
theorem TxR.other {C : zNm → Int → Prop} {h h' : zH} {t t' : Int} {tx : zTx} {n : Nat} (hX : TxR h t tx) (hS : Same C h h') (hC : ∀ k j, 9 ≤ k → k ≤ 17 → C (1, k) j → k = 12 ∧ j = 16 * t' + n) (hn : n < 16) (ht : t ≠ t') : TxR h' t tx := by
  obtain ⟨x1, x2, x3⟩ := hX
  have e9 : ∀ k j, 9 ≤ k → k ≤ 17 → k ≠ 12 → gI h' (1, k) j = gI h (1, k) j := fun k j k1 k2 k3 => hS.2.2 _ _ fun z => k3 (hC k j k1 k2 z).1
  refine ⟨by rw [e9 9 t (by decide) (by decide) (by decide)]; exact x1, x2, fun k s hk => ?_⟩
  obtain ⟨l1, l2, l3, l4, l5, l6⟩ := x3 k s hk
  have hlt : k < tx.length := (List.getElem?_eq_some_iff.mp hk).1
  unfold LnR
  rw [e9 10 _ (by decide) (by decide) (by decide), e9 11 _ (by decide) (by decide) (by decide), e9 13 _ (by decide) (by decide) (by decide), e9 14 _ (by decide) (by decide) (by decide), hS.2.2 _ _ (fun z => by have := (hC 12 _ (by decide) (by decide) z).2; omega)]
  refine ⟨l1, l2, l3, l4, fun j s hs => ?_, l6⟩
  rw [e9 15 _ (by decide) (by decide) (by decide), e9 16 _ (by decide) (by decide) (by decide), e9 17 _ (by decide) (by decide) (by decide)]
  exact l5 j s hs
noncomputable def upH (hs : Int → zTx) (habit v : Int) : Int → zTx := fun t => if t = habit then txDraw v (hs habit) else hs t
noncomputable def sTurns (b mu dry : Int) (tx0 : zTx) (hs : Int → zTx) (habit weeks ticks most : Int) (R : Int → Int) : Int := zIf (txHas (hs habit)) (sUp (fun v => sNet (sWks (sGo b mu dry tx0 (upH hs habit v) ticks.toNat) weeks.toNat R) b ≤ most) 10 0) (-1)
abbrev okTurns (habit weeks ticks : Int) : Prop := (0 ≤ habit ∧ habit ≤ 5) ∧ (1 ≤ weeks ∧ weeks ≤ 4) ∧ 1 ≤ ticks ∧ ticks ≤ 100
theorem con_X5_turns (l : Launch) {h h1 : zH} (e1 : h1 = setI h (1, 0) 0 0) {B b mu dry : Int} {tx0 : zTx} {hs : Int → zTx} (T : TwD h1 B b mu dry tx0 hs) (hB : B ≤ 600000000) {R : Int → Int} (hR : gI h1 (1, 5) = R) (habit weeks ticks most : Int) : Con l mX5_turns 11 0 0 [zR (some (1, 0)), zI habit, zI weeks, zI ticks, zI most] h (rI fun x h' => (okTurns habit weeks ticks → x = sTurns b mu dry tx0 hs habit weeks ticks most R ∧ Same cC h1 h') ∧ (¬ okTurns habit weeks ticks → x = -2 ∧ h' = h1)) zNo := by
  refine Con.ofS (by decide +kernel) (Nat.le_of_ble_eq_true rfl) fun Γ hΓ hno hwf hav => ?_
  have hΓ : Ctx Γ l cX5_turns RX5 "turns" 10 (Option.some Jvm.ClassFile.FieldType.int) _ _ 11 _ _ := hΓ
  show SS Γ 0 [some (zR _), some (zI _), some (zI _), some (zI _), some (zI _), none, none, none, none, none] [] _ 0 0
  have hTw := T.k.tw.thr e1
  have hok := T.k.ok
  rw [hR] at hok
  have hcs := hok.hd.rw.c
  -- with the line found
  have mid : okTurns habit weeks ticks → ∀ (n : Nat) (q : zLn), (hs habit)[n]? = some q → isDraw q → (∀ (j : Nat) (s : zLn), j < n → (hs habit)[j]? = some s → ¬ isDraw s) → ∀ (z : Option zV) (i : Int), SS Γ 105 [some (zR (some (1, 0))), some (zI habit), some (zI weeks), some (zI ticks), some (zI most), some (zI (16 * (1 + habit) + n)), some (zI i), none, none, none] [] h1 0 0 := by
    intro hk n q hq hd hn _ i9
    have hTw := T.k.tw
    have hXt := T.k.ts habit hk.1.1 hk.1.2
    have hn16 : n < 16 := by have := (List.getElem?_eq_some_iff.mp hq).1; have := hXt.2.1; omega
    have hL := hXt.2.2 n q hq
    have hhas : txHas (hs habit) := ⟨q, List.mem_of_getElem? hq, hd⟩
    have hC9 : ∀ k j, 9 ≤ k → k ≤ 17 → (cC5 (1, k) j ∨ ((1, k) : zNm) = (1, 12) ∧ j = 16 * (1 + habit) + n) → k = 12 ∧ j = 16 * (1 + habit) + n := by
      rintro k j k1 k2 (z | ⟨z, z'⟩)
      · exact absurd z (cC5_no (by omega))
      · exact ⟨congrArg Prod.snd z, z'⟩
    have mk : ∀ (h' : zH) (v B' : Int), 0 ≤ v ∧ v ≤ 9 → Same (fun a j => cC5 a j ∨ a = (1, 12) ∧ j = 16 * (1 + habit) + n) h1 h' → gI h' (1, 12) (16 * (1 + habit) + n) = v → RowOK B' (-1) (gI h' (1, 5)) → TwD h' B' b mu dry tx0 (upH hs habit v) := by
      intro h' v B' hv hS h12 ok9
      refine TwD.mk (TwK.mk (T.k.tw.same hS) ok9 ((hS.2.2 _ _ ?_).trans T.k.b28) ((hS.2.2 _ _ ?_).trans T.k.b29) T.k.hb (T.k.t0.other hS (t' := 1 + habit) (n := n) hC9 hn16 (by omega)) (fun t t1 t2 => ?_)) ((hS.2.2 _ _ ?_).trans T.d30) T.hd
      · rintro (z | ⟨z, -⟩)
        · exact cC5_no (by decide) z
        · exact n1 (by decide) z
      · rintro (z | ⟨z, -⟩)
        · exact cC5_no (by decide) z
        · exact n1 (by decide) z
      · unfold upH
        by_cases e : t = habit
        · subst e
          rw [if_pos rfl]
          exact hXt.draw hS hC9 h12 hq hd (by omega) hn
        · rw [if_neg e]
          exact (T.k.ts t t1 t2).other hS (t' := 1 + habit) (n := n) hC9 hn16 (by omega)
      · rintro (z | ⟨z, -⟩)
        · exact cC5_no (by decide) z
        · exact n1 (by decide) z
    generalize hp : (fun v : Int => sNet (sWks (sGo b mu dry tx0 (upH hs habit v) ticks.toNat) weeks.toNat R) b ≤ most) = p
    have hpe : ∀ v, p v ↔ sNet (sWks (sGo b mu dry tx0 (upH hs habit v) ticks.toNat) weeks.toNat R) b ≤ most := fun v => by rw [← hp]
    have hT : sTurns b mu dry tx0 hs habit weeks ticks most R = sUp p 10 0 := by unfold sTurns; rw [zIf_t hhas, hp]
    have hL3 : gI h1 (1, 12) (16 * (1 + habit) + n) = q.2.2.1 := hL.2.2.1
    -- the end: the number is put back
    have fin : ∀ (h' : zH) (f v w : Int), Same (fun a j => cC a j ∨ a = (1, 12) ∧ j = 16 * (1 + habit) + n) h1 h' → f = sUp p 10 0 → SS Γ 195 [some (zR (some (1, 0))), some (zI habit), some (zI weeks), some (zI ticks), some (zI most), some (zI (16 * (1 + habit) + n)), some (zI q.2.2.1), some (zI f), some (zI v), none] [] h' 0 0 := by
      intro h' f v w hS hf
      have hTw := T.k.tw.same hS
      refine zs_aload_n hΓ dX5_turns_195 (pc' := 196) rfl rfl rfl ?_
      refine zs_getrE hΓ dX5_turns_196 (pc' := 199) rfl fX5_53 (i9 := 12) rfl rfl (tw_t hTw) (tw_p12 hTw) ?_
      refine zs_iload hΓ dX5_turns_199 (pc' := 201) rfl rfl ?_
      refine zs_iload hΓ dX5_turns_201 (pc' := 203) rfl rfl ?_
      refine zs_iast hΓ dX5_turns_203 (pc' := 204) rfl (tw_a12 hTw) (show (0 : Int) ≤ 1 by decide) (by omega) (by omega) ?_
      refine zs_iload hΓ dX5_turns_204 (pc' := 206) rfl rfl ?_
      exact zs_iret hΓ dX5_turns_206 rfl (by omega) (by omega) (⟨_, rfl, fun _ => ⟨hf.trans hT.symm, ⟨hS.1, hS.2.1, fun a j hn => by
        by_cases e : a = (1, 12) ∧ j = 16 * (1 + habit) + n
        · rw [gI_setI, if_pos e, e.1, e.2]; exact hL3.symm
        · rw [gI_setI, if_neg e]; exact hS.2.2 a j (fun z => z.elim hn e)⟩⟩, fun z => absurd hk z⟩)
    have lp : ∀ (m : Nat) (v f : Int) (h' : zH), v + m = 10 → 0 ≤ v → Same (fun a j => cC a j ∨ a = (1, 12) ∧ j = 16 * (1 + habit) + n) h1 h' → ((f = -1 ∧ sUp p 10 0 = sUp p m v) ∨ (0 ≤ f ∧ sUp p 10 0 = f)) → SS Γ 127 [some (zR (some (1, 0))), some (zI habit), some (zI weeks), some (zI ticks), some (zI most), some (zI (16 * (1 + habit) + n)), some (zI q.2.2.1), some (zI f), some (zI v), none] [] h' 0 0 := by
      intro m
      induction m with
      | zero =>
        intro v f h' hv hv0 hS hf
        have hTw := T.k.tw.same hS
        refine zs_iload hΓ dX5_turns_127 (pc' := 129) rfl rfl ?_
        refine zs_bipush hΓ dX5_turns_129 (pc' := 131) rfl ⟨by decide, by decide⟩ ?_
        refine zs_icmpge hΓ dX5_turns_131 (tgt := 195) (by decide) (pc' := 134) rfl (fun c_131 => ?_) (fun c_131 => False.elim (absurd c_131 (by omega)))
        exact fin h' f v 0 hS (by rcases hf with ⟨f1, f2⟩ | ⟨f1, f2⟩; rw [f2, f1]; rfl; exact f2.symm)
      | succ m ih =>
        intro v f h' hv hv0 hS hf
        have hTw := T.k.tw.same hS
        have hu : sUp p (m + 1) v = zIf (p v) v (sUp p m (v + 1)) := rfl
        have hS5 : Same (fun a j => cC5 a j ∨ a = (1, 12) ∧ j = 16 * (1 + habit) + n) h1 h' := hS.mono fun a j z => z.imp Or.inl id
        have hx9 := T.k.t0.wf
        -- the weeks
        have inner : ∀ (m9 : Nat) (w : Int) (h'' : zH), w + m9 = weeks → 0 ≤ w → Same (fun a j => cC5 a j ∨ a = (1, 12) ∧ j = 16 * (1 + habit) + n) h1 h'' → gI h'' (1, 12) (16 * (1 + habit) + n) = v → gI h'' (1, 7) = R → gI h'' (1, 5) = sWks (sGo b mu dry tx0 (upH hs habit v) ticks.toNat) w.toNat R → f = -1 → v < 10 → SS Γ 155 [some (zR (some (1, 0))), some (zI habit), some (zI weeks), some (zI ticks), some (zI most), some (zI (16 * (1 + habit) + n)), some (zI q.2.2.1), some (zI f), some (zI v), some (zI w)] [] h'' 0 0 := by
          intro m9
          induction m9 with
          | zero =>
            intro w h'' hw hw0 hS9 h12 h7 hr hf9 hv9
            have hf := hf.resolve_right (by omega)
            have T' := mk h'' v (B + 20000 * w.toNat) (by omega) hS9 h12 (by rw [hr]; exact (RowOK.wks (b := b) (mu := mu) (hs := upH hs habit v) hx9 T.hd hok (by omega) w.toNat).1)
            have hTw := T'.k.tw
            refine zs_iload hΓ dX5_turns_155 (pc' := 157) rfl rfl ?_
            refine zs_iload_n hΓ dX5_turns_157 (pc' := 158) rfl rfl rfl ?_
            refine zs_icmpge hΓ dX5_turns_158 (tgt := 172) (by decide) (pc' := 161) rfl (fun c_158 => ?_) (fun c_158 => False.elim (absurd c_158 (by omega)))
            refine zs_aload_n hΓ dX5_turns_172 (pc' := 173) rfl rfl rfl ?_
            refine zs_callVIP hΓ dX5_turns_173 (pc' := 176) rfl kX5_429 (con_X5_wornMany l hTw T'.k.ok.hd.rw) (tw_t hTw) rfl rfl rfl (Nat.le_of_ble_eq_true rfl) (by omega) (by decide) (by omega) (by omega) ?_ (fun _ _ q _ => False.elim q)
            refine zs_eqI (y := sNet (sWks (sGo b mu dry tx0 (upH hs habit v) ticks.toNat) weeks.toNat R) b) (by rw [hr, T'.k.b28, show w.toNat = weeks.toNat by omega]) ?_
            refine zs_iload hΓ dX5_turns_176 (pc' := 178) rfl rfl ?_
            refine zs_icmpgt hΓ dX5_turns_178 (tgt := 185) (by decide) (pc' := 181) rfl (fun c_178 => ?_) (fun c_178 => ?_)
            · refine zs_aload_n hΓ dX5_turns_185 (pc' := 186) rfl rfl rfl ?_
              refine zs_callVV hΓ dX5_turns_186 (pc' := 189) rfl kX5_459 (con_X5_layBack l hTw) (tw_t hTw) rfl rfl rfl (Nat.le_of_ble_eq_true rfl) (by omega) (by decide) (by omega) (by omega) (fun h_186 q_186 k_186 => ?_) (fun _ _ q _ => False.elim q)
              obtain ⟨p1, p2⟩ := q_186
              have back : Same (fun a j => cC a j ∨ a = (1, 12) ∧ j = 16 * (1 + habit) + n) h1 h_186 := ⟨p1.1.trans hS9.1, p1.2.1.trans hS9.2.1, fun a j hn => by
                by_cases e : a = (1, 5)
                · rw [e, p2, h7, hR]
                · rw [p1.2.2 a j e]; exact hS9.2.2 a j (fun z => z.elim (fun z => z.elim (fun z => hn (Or.inl z)) e) (fun z => hn (Or.inr z)))⟩
              refine zs_iinc hΓ dX5_turns_189 (pc' := 192) rfl (L' := [some (zR _), some (zI _), some (zI _), some (zI _), some (zI _), some (zI _), some (zI _), some (zI _), some (zI _), some (zI _)]) rfl (by unfold inI; omega) (by decide) rfl rfl ?_
              refine zs_goto hΓ dX5_turns_192 (tgt := 127) (by decide) ?_
              refine zs_drop 9 (L' := [some (zR _), some (zI _), some (zI _), some (zI _), some (zI _), some (zI _), some (zI _), some (zI _), some (zI _), none]) rfl ?_
              exact ih (v + 1) f h_186 (by omega) (by omega) back (Or.inl ⟨hf.1, by rw [hf.2, hu, zIf_f (fun z => by have := (hpe v).mp z; omega)]⟩)
            · refine zs_iload hΓ dX5_turns_181 (pc' := 183) rfl rfl ?_
              refine zs_istore hΓ dX5_turns_183 (pc' := 185) rfl (L' := [some (zR _), some (zI _), some (zI _), some (zI _), some (zI _), some (zI _), some (zI _), some (zI _), some (zI _), some (zI _)]) (by decide) rfl rfl ?_
              refine zs_aload_n hΓ dX5_turns_185 (pc' := 186) rfl rfl rfl ?_
              refine zs_callVV hΓ dX5_turns_186 (pc' := 189) rfl kX5_459 (con_X5_layBack l hTw) (tw_t hTw) rfl rfl rfl (Nat.le_of_ble_eq_true rfl) (by omega) (by decide) (by omega) (by omega) (fun h_186 q_186 k_186 => ?_) (fun _ _ q _ => False.elim q)
              obtain ⟨p1, p2⟩ := q_186
              have back : Same (fun a j => cC a j ∨ a = (1, 12) ∧ j = 16 * (1 + habit) + n) h1 h_186 := ⟨p1.1.trans hS9.1, p1.2.1.trans hS9.2.1, fun a j hn => by
                by_cases e : a = (1, 5)
                · rw [e, p2, h7, hR]
                · rw [p1.2.2 a j e]; exact hS9.2.2 a j (fun z => z.elim (fun z => z.elim (fun z => hn (Or.inl z)) e) (fun z => hn (Or.inr z)))⟩
              refine zs_iinc hΓ dX5_turns_189 (pc' := 192) rfl (L' := [some (zR _), some (zI _), some (zI _), some (zI _), some (zI _), some (zI _), some (zI _), some (zI _), some (zI _), some (zI _)]) rfl (by unfold inI; omega) (by decide) rfl rfl ?_
              refine zs_goto hΓ dX5_turns_192 (tgt := 127) (by decide) ?_
              refine zs_drop 9 (L' := [some (zR _), some (zI _), some (zI _), some (zI _), some (zI _), some (zI _), some (zI _), some (zI _), some (zI _), none]) rfl ?_
              exact ih (v + 1) v h_186 (by omega) (by omega) back (Or.inr ⟨hv0, by rw [hf.2, hu, zIf_t ((hpe v).mpr (by omega))]⟩)
          | succ m9 ih9 =>
            intro w h'' hw hw0 hS9 h12 h7 hr hf9 hv9
            have ok9 := RowOK.wks (b := b) (mu := mu) (hs := upH hs habit v) (t := ticks.toNat) hx9 T.hd hok (by omega) w.toNat
            have T' := mk h'' v (B + 20000 * w.toNat) (by omega) hS9 h12 (by rw [hr]; exact ok9.1)
            have hTw := T'.k.tw
            refine zs_iload hΓ dX5_turns_155 (pc' := 157) rfl rfl ?_
            refine zs_iload_n hΓ dX5_turns_157 (pc' := 158) rfl rfl rfl ?_
            refine zs_icmpge hΓ dX5_turns_158 (tgt := 172) (by decide) (pc' := 161) rfl (fun c_158 => False.elim (absurd c_158 (by omega))) (fun c_158 => ?_)
            refine zs_aload_n hΓ dX5_turns_161 (pc' := 162) rfl rfl rfl ?_
            refine zs_iload_n hΓ dX5_turns_162 (pc' := 163) rfl rfl rfl ?_
            refine zs_callVV hΓ dX5_turns_163 (pc' := 166) rfl kX5_452 (con_X5_go l T' (by omega) ticks (by omega)) (tw_t hTw) rfl rfl rfl (Nat.le_of_ble_eq_true rfl) (by omega) (by decide) (by omega) (by omega) (fun h_163 q_163 k_163 => ?_) (fun _ _ q _ => False.elim q)
            obtain ⟨p3, p4⟩ := q_163
            refine zs_iinc hΓ dX5_turns_166 (pc' := 169) rfl (L' := [some (zR _), some (zI _), some (zI _), some (zI _), some (zI _), some (zI _), some (zI _), some (zI _), some (zI _), some (zI _)]) rfl (by unfold inI; omega) (by decide) rfl rfl ?_
            refine zs_goto hΓ dX5_turns_169 (tgt := 155) (by decide) ?_
            exact ih9 (w + 1) _ (by omega) (by omega) (hS9.tr ((cW_5 p4).mono fun _ _ z => Or.inl z)) ((p4.2.2 _ _ (n0j (by decide) (by decide) (by decide))).trans h12) ((p4.row fun _ => n0j (by decide) (by decide) (by decide)).trans h7) (by rw [p3, hr, show (w + 1).toNat = w.toNat + 1 by omega]; rfl) hf9 hv9
        refine zs_iload hΓ dX5_turns_127 (pc' := 129) rfl rfl ?_
        refine zs_bipush hΓ dX5_turns_129 (pc' := 131) rfl ⟨by decide, by decide⟩ ?_
        refine zs_icmpge hΓ dX5_turns_131 (tgt := 195) (by decide) (pc' := 134) rfl (fun c_131 => False.elim (absurd c_131 (by omega))) (fun c_131 => ?_)
        refine zs_iload hΓ dX5_turns_134 (pc' := 136) rfl rfl ?_
        refine zs_ifge hΓ dX5_turns_136 (tgt := 195) (by decide) (pc' := 139) rfl (fun c_136 => ?_) (fun c_136 => ?_)
        · exact fin h' f v 0 hS (by rcases hf with ⟨f1, f2⟩ | ⟨f1, f2⟩; omega; exact f2.symm)
        · refine zs_aload_n hΓ dX5_turns_139 (pc' := 140) rfl rfl rfl ?_
          refine zs_getrE hΓ dX5_turns_140 (pc' := 143) rfl fX5_53 (i9 := 12) rfl rfl (tw_t hTw) (tw_p12 hTw) ?_
          refine zs_iload hΓ dX5_turns_143 (pc' := 145) rfl rfl ?_
          refine zs_iload hΓ dX5_turns_145 (pc' := 147) rfl rfl ?_
          refine zs_iast hΓ dX5_turns_147 (pc' := 148) rfl (tw_a12 hTw) (show (0 : Int) ≤ 1 by decide) (by omega) (by omega) ?_
          refine zs_nm (fun h3 e3 => ?_)
          have hTw : TwT h3 := by rw [e3]; exact hTw
          have hS3 : Same (fun a j => cC5 a j ∨ a = (1, 12) ∧ j = 16 * (1 + habit) + n) h1 h3 := by rw [e3]; exact hS5.set (Or.inr ⟨rfl, rfl⟩)
          have r3 : gI h3 (1, 5) = R := by rw [e3, gI_ot _ _ _ (n1 (by decide))]; exact (hS.row fun _ z => z.elim (cC_no (by omega)) (fun z => n1 (by decide) z.1)).trans hR
          have h12 : gI h3 (1, 12) (16 * (1 + habit) + n) = v := by rw [e3, gI_setI, if_pos ⟨rfl, rfl⟩]
          refine zs_aload_n hΓ dX5_turns_148 (pc' := 149) rfl rfl rfl ?_
          refine zs_callVV hΓ dX5_turns_149 (pc' := 152) rfl kX5_445 (con_X5_layAside l hTw) (tw_t hTw) rfl rfl rfl (Nat.le_of_ble_eq_true rfl) (by omega) (by decide) (by omega) (by omega) (fun h_149 q_149 k_149 => ?_) (fun _ _ q _ => False.elim q)
          obtain ⟨p1, p2⟩ := q_149
          refine zs_iconst hΓ dX5_turns_152 (pc' := 153) rfl ⟨by decide, by decide⟩ ?_
          refine zs_istore hΓ dX5_turns_153 (pc' := 155) rfl (L' := [some (zR _), some (zI _), some (zI _), some (zI _), some (zI _), some (zI _), some (zI _), some (zI _), some (zI _), some (zI _)]) (by decide) rfl rfl ?_
          exact inner weeks.toNat 0 _ (by omega) (by omega) (hS3.tr ((c1_5 p1 (by decide)).mono fun _ _ z => Or.inl z)) ((p1.2.2 _ _ (n1 (by decide))).trans h12) (by rw [p2, r3]) (by rw [p1.row fun _ => n1 (by decide)]; exact r3) (by omega) (by omega)
    refine zs_iload hΓ dX5_turns_105 (pc' := 107) rfl rfl ?_
    refine zs_ifge hΓ dX5_turns_107 (tgt := 112) (by decide) (pc' := 110) rfl (fun c_107 => ?_) (fun c_107 => False.elim (absurd c_107 (by omega)))
    refine zs_aload_n hΓ dX5_turns_112 (pc' := 113) rfl rfl rfl ?_
    refine zs_getrE hΓ dX5_turns_113 (pc' := 116) rfl fX5_53 (i9 := 12) rfl rfl (tw_t hTw) (tw_p12 hTw) ?_
    refine zs_iload hΓ dX5_turns_116 (pc' := 118) rfl rfl ?_
    refine zs_iald hΓ dX5_turns_118 (pc' := 119) rfl (tw_a12 hTw) (by omega) (by omega) ?_
    refine zs_eqI hL3 ?_
    refine zs_istore hΓ dX5_turns_119 (pc' := 121) rfl (L' := [some (zR _), some (zI _), some (zI _), some (zI _), some (zI _), some (zI _), some (zI _), none, none, none]) (by decide) rfl rfl ?_
    refine zs_iconst hΓ dX5_turns_121 (pc' := 122) rfl ⟨by decide, by decide⟩ ?_
    refine zs_istore hΓ dX5_turns_122 (pc' := 124) rfl (L' := [some (zR _), some (zI _), some (zI _), some (zI _), some (zI _), some (zI _), some (zI _), some (zI _), none, none]) (by decide) rfl rfl ?_
    refine zs_iconst hΓ dX5_turns_124 (pc' := 125) rfl ⟨by decide, by decide⟩ ?_
    refine zs_istore hΓ dX5_turns_125 (pc' := 127) rfl (L' := [some (zR _), some (zI _), some (zI _), some (zI _), some (zI _), some (zI _), some (zI _), some (zI _), some (zI _), none]) (by decide) rfl rfl ?_
    exact lp 10 0 (-1) h1 (by omega) (by omega) (Same.rf _ _) (Or.inl ⟨rfl, rfl⟩)
  have none9 : okTurns habit weeks ticks → ¬ txHas (hs habit) → ∀ i : Int, SS Γ 105 [some (zR (some (1, 0))), some (zI habit), some (zI weeks), some (zI ticks), some (zI most), some (zI (-1)), some (zI i), none, none, none] [] h1 0 0 := by
    intro hk hno i
    have hTw := T.k.tw
    refine zs_iload hΓ dX5_turns_105 (pc' := 107) rfl rfl ?_
    refine zs_ifge hΓ dX5_turns_107 (tgt := 112) (by decide) (pc' := 110) rfl (fun c_107 => False.elim (absurd c_107 (by omega))) (fun c_107 => ?_)
    refine zs_iconst hΓ dX5_turns_110 (pc' := 111) rfl ⟨by decide, by decide⟩ ?_
    exact zs_iret hΓ dX5_turns_111 rfl (by omega) (by omega) (⟨_, rfl, fun _ => ⟨by unfold sTurns; rw [zIf_f hno], Same.rf _ _⟩, fun z => absurd hk z⟩)
  have look : okTurns habit weeks ticks → ∀ (m n : Nat), n + m = (hs habit).length → (∀ (j : Nat) (s : zLn), j < n → (hs habit)[j]? = some s → ¬ isDraw s) → SS Γ 47 [some (zR (some (1, 0))), some (zI habit), some (zI weeks), some (zI ticks), some (zI most), some (zI (-1)), some (zI (16 * (1 + habit) + n)), none, none, none] [] h1 0 0 := by
    intro hk m
    have hTw := T.k.tw
    have hXt := T.k.ts habit hk.1.1 hk.1.2
    have hX1 := hXt.1
    have hX2 := hXt.2.1
    induction m with
    | zero =>
      intro n hn hno
      refine zs_iload hΓ dX5_turns_47 (pc' := 49) rfl rfl ?_
      refine zs_bipush hΓ dX5_turns_49 (pc' := 51) rfl ⟨by decide, by decide⟩ ?_
      refine zs_iconst hΓ dX5_turns_51 (pc' := 52) rfl ⟨by decide, by decide⟩ ?_
      refine zs_iload_n hΓ dX5_turns_52 (pc' := 53) rfl rfl rfl ?_
      refine zs_iadd hΓ dX5_turns_53 (pc' := 54) rfl (by unfold inI; omega) ?_
      refine zs_imul hΓ dX5_turns_54 (pc' := 55) rfl (by unfold inI; omega) ?_
      refine zs_aload_n hΓ dX5_turns_55 (pc' := 56) rfl rfl rfl ?_
      refine zs_getrE hΓ dX5_turns_56 (pc' := 59) rfl fX5_44 (i9 := 9) rfl rfl (tw_t hTw) (tw_p9 hTw) ?_
      refine zs_iconst hΓ dX5_turns_59 (pc' := 60) rfl ⟨by decide, by decide⟩ ?_
      refine zs_iload_n hΓ dX5_turns_60 (pc' := 61) rfl rfl rfl ?_
      refine zs_iadd hΓ dX5_turns_61 (pc' := 62) rfl (by unfold inI; omega) ?_
      refine zs_iald hΓ dX5_turns_62 (pc' := 63) rfl (tw_a9 hTw) (by omega) (by omega) ?_
      refine zs_eqI hX1 ?_
      refine zs_iadd hΓ dX5_turns_63 (pc' := 64) rfl (by unfold inI; omega) ?_
      refine zs_icmpge hΓ dX5_turns_64 (tgt := 105) (by decide) (pc' := 67) rfl (fun c_64 => ?_) (fun c_64 => False.elim (absurd c_64 (by omega)))
      exact none9 hk (fun ⟨q, q1, q2⟩ => by obtain ⟨j, hj⟩ := List.getElem?_of_mem q1; exact hno j q (by have := (List.getElem?_eq_some_iff.mp hj).1; omega) hj q2) _
    | succ m ih =>
      intro n hn hno
      have hlt : n < (hs habit).length := by omega
      have hq := List.getElem?_eq_getElem hlt
      generalize (hs habit)[n] = q at hq
      have hL := hXt.2.2 n q hq
      have step : ¬ isDraw q → SS Γ 47 [some (zR (some (1, 0))), some (zI habit), some (zI weeks), some (zI ticks), some (zI most), some (zI (-1)), some (zI (16 * (1 + habit) + n + 1)), none, none, none] [] h1 0 0 := fun z => by
        have := ih (n + 1) (by omega) (fun j s hj hs => by by_cases e : j = n; rw [e, hq] at hs; cases hs; exact z; exact hno j s (by omega) hs)
        rw [show 16 * (1 + habit) + ((n + 1 : Nat) : Int) = 16 * (1 + habit) + n + 1 by omega] at this
        exact this
      have found : isDraw q → SS Γ 47 [some (zR (some (1, 0))), some (zI habit), some (zI weeks), some (zI ticks), some (zI most), some (zI (16 * (1 + habit) + n)), some (zI (16 * (1 + habit) + n + 1)), none, none, none] [] h1 0 0 := by
        intro z
        refine zs_iload hΓ dX5_turns_47 (pc' := 49) rfl rfl ?_
        refine zs_bipush hΓ dX5_turns_49 (pc' := 51) rfl ⟨by decide, by decide⟩ ?_
        refine zs_iconst hΓ dX5_turns_51 (pc' := 52) rfl ⟨by decide, by decide⟩ ?_
        refine zs_iload_n hΓ dX5_turns_52 (pc' := 53) rfl rfl rfl ?_
        refine zs_iadd hΓ dX5_turns_53 (pc' := 54) rfl (by unfold inI; omega) ?_
        refine zs_imul hΓ dX5_turns_54 (pc' := 55) rfl (by unfold inI; omega) ?_
        refine zs_aload_n hΓ dX5_turns_55 (pc' := 56) rfl rfl rfl ?_
        refine zs_getrE hΓ dX5_turns_56 (pc' := 59) rfl fX5_44 (i9 := 9) rfl rfl (tw_t hTw) (tw_p9 hTw) ?_
        refine zs_iconst hΓ dX5_turns_59 (pc' := 60) rfl ⟨by decide, by decide⟩ ?_
        refine zs_iload_n hΓ dX5_turns_60 (pc' := 61) rfl rfl rfl ?_
        refine zs_iadd hΓ dX5_turns_61 (pc' := 62) rfl (by unfold inI; omega) ?_
        refine zs_iald hΓ dX5_turns_62 (pc' := 63) rfl (tw_a9 hTw) (by omega) (by omega) ?_
        refine zs_eqI hX1 ?_
        refine zs_iadd hΓ dX5_turns_63 (pc' := 64) rfl (by unfold inI; omega) ?_
        refine zs_icmpge hΓ dX5_turns_64 (tgt := 105) (by decide) (pc' := 67) rfl (fun c_64 => ?_) (fun c_64 => ?_)
        · exact mid hk n q hq z hno none _
        · refine zs_iload hΓ dX5_turns_67 (pc' := 69) rfl rfl ?_
          refine zs_ifge hΓ dX5_turns_69 (tgt := 105) (by decide) (pc' := 72) rfl (fun c_69 => ?_) (fun c_69 => False.elim (absurd c_69 (by omega)))
          exact mid hk n q hq z hno none _
      refine zs_iload hΓ dX5_turns_47 (pc' := 49) rfl rfl ?_
      refine zs_bipush hΓ dX5_turns_49 (pc' := 51) rfl ⟨by decide, by decide⟩ ?_
      refine zs_iconst hΓ dX5_turns_51 (pc' := 52) rfl ⟨by decide, by decide⟩ ?_
      refine zs_iload_n hΓ dX5_turns_52 (pc' := 53) rfl rfl rfl ?_
      refine zs_iadd hΓ dX5_turns_53 (pc' := 54) rfl (by unfold inI; omega) ?_
      refine zs_imul hΓ dX5_turns_54 (pc' := 55) rfl (by unfold inI; omega) ?_
      refine zs_aload_n hΓ dX5_turns_55 (pc' := 56) rfl rfl rfl ?_
      refine zs_getrE hΓ dX5_turns_56 (pc' := 59) rfl fX5_44 (i9 := 9) rfl rfl (tw_t hTw) (tw_p9 hTw) ?_
      refine zs_iconst hΓ dX5_turns_59 (pc' := 60) rfl ⟨by decide, by decide⟩ ?_
      refine zs_iload_n hΓ dX5_turns_60 (pc' := 61) rfl rfl rfl ?_
      refine zs_iadd hΓ dX5_turns_61 (pc' := 62) rfl (by unfold inI; omega) ?_
      refine zs_iald hΓ dX5_turns_62 (pc' := 63) rfl (tw_a9 hTw) (by omega) (by omega) ?_
      refine zs_eqI hX1 ?_
      refine zs_iadd hΓ dX5_turns_63 (pc' := 64) rfl (by unfold inI; omega) ?_
      refine zs_icmpge hΓ dX5_turns_64 (tgt := 105) (by decide) (pc' := 67) rfl (fun c_64 => False.elim (absurd c_64 (by omega))) (fun c_64 => ?_)
      refine zs_iload hΓ dX5_turns_67 (pc' := 69) rfl rfl ?_
      refine zs_ifge hΓ dX5_turns_69 (tgt := 105) (by decide) (pc' := 72) rfl (fun c_69 => False.elim (absurd c_69 (by omega))) (fun c_69 => ?_)
      refine zs_aload_n hΓ dX5_turns_72 (pc' := 73) rfl rfl rfl ?_
      refine zs_getrE hΓ dX5_turns_73 (pc' := 76) rfl fX5_47 (i9 := 10) rfl rfl (tw_t hTw) (tw_p10 hTw) ?_
      refine zs_iload hΓ dX5_turns_76 (pc' := 78) rfl rfl ?_
      refine zs_iald hΓ dX5_turns_78 (pc' := 79) rfl (tw_a10 hTw) (by omega) (by omega) ?_
      refine zs_eqI hL.1 ?_
      refine zs_iconst hΓ dX5_turns_79 (pc' := 80) rfl ⟨by decide, by decide⟩ ?_
      refine zs_icmpne hΓ dX5_turns_80 (tgt := 99) (by decide) (pc' := 83) rfl (fun c_80 => ?_) (fun c_80 => ?_)
      · refine zs_iinc hΓ dX5_turns_99 (pc' := 102) rfl (L' := [some (zR _), some (zI _), some (zI _), some (zI _), some (zI _), some (zI _), some (zI _), none, none, none]) rfl (by unfold inI; omega) (by decide) rfl rfl ?_
        refine zs_goto hΓ dX5_turns_102 (tgt := 47) (by decide) ?_
        exact step (fun z => c_80 z.1)
      · refine zs_aload_n hΓ dX5_turns_83 (pc' := 84) rfl rfl rfl ?_
        refine zs_getrE hΓ dX5_turns_84 (pc' := 87) rfl fX5_50 (i9 := 11) rfl rfl (tw_t hTw) (tw_p11 hTw) ?_
        refine zs_iload hΓ dX5_turns_87 (pc' := 89) rfl rfl ?_
        refine zs_iald hΓ dX5_turns_89 (pc' := 90) rfl (tw_a11 hTw) (by omega) (by omega) ?_
        refine zs_eqI hL.2.1 ?_
        refine zs_bipush hΓ dX5_turns_90 (pc' := 92) rfl ⟨by decide, by decide⟩ ?_
        refine zs_icmpne hΓ dX5_turns_92 (tgt := 99) (by decide) (pc' := 95) rfl (fun c_92 => ?_) (fun c_92 => ?_)
        · refine zs_iinc hΓ dX5_turns_99 (pc' := 102) rfl (L' := [some (zR _), some (zI _), some (zI _), some (zI _), some (zI _), some (zI _), some (zI _), none, none, none]) rfl (by unfold inI; omega) (by decide) rfl rfl ?_
          refine zs_goto hΓ dX5_turns_102 (tgt := 47) (by decide) ?_
          exact step (fun z => c_92 z.2)
        · refine zs_iload hΓ dX5_turns_95 (pc' := 97) rfl rfl ?_
          refine zs_istore hΓ dX5_turns_97 (pc' := 99) rfl (L' := [some (zR _), some (zI _), some (zI _), some (zI _), some (zI _), some (zI _), some (zI _), none, none, none]) (by decide) rfl rfl ?_
          refine zs_iinc hΓ dX5_turns_99 (pc' := 102) rfl (L' := [some (zR _), some (zI _), some (zI _), some (zI _), some (zI _), some (zI _), some (zI _), none, none, none]) rfl (by unfold inI; omega) (by decide) rfl rfl ?_
          refine zs_goto hΓ dX5_turns_102 (tgt := 47) (by decide) ?_
          exact found ⟨c_80, c_92⟩
  refine zs_aload_n hΓ dX5_turns_0 (pc' := 1) rfl rfl rfl ?_
  refine zs_iconst hΓ dX5_turns_1 (pc' := 2) rfl ⟨by decide, by decide⟩ ?_
  refine zs_puti hΓ dX5_turns_2 (pc' := 5) rfl fX5_1 (fun q hq => (by cases hq; exact Or.inl rfl)) (i9 := 0) rfl trivial (tw_t hTw) (show (0 : Int) ≤ 1 by decide) ?_
  rw [← e1]; have hTw := T.k.tw
  refine zs_iload_n hΓ dX5_turns_5 (pc' := 6) rfl rfl rfl ?_
  refine zs_iconst hΓ dX5_turns_6 (pc' := 7) rfl ⟨by decide, by decide⟩ ?_
  refine zs_iconst hΓ dX5_turns_7 (pc' := 8) rfl ⟨by decide, by decide⟩ ?_
  refine zs_callSIP hΓ dX5_turns_8 (pc' := 11) rfl kX5_132 (con_X5_isIn l _ _ _) rfl rfl (Nat.le_of_ble_eq_true rfl) (by omega) (by decide) (by omega) (by omega) ?_ (fun _ _ q _ => False.elim q)
  refine zs_ifeq hΓ dX5_turns_11 (tgt := 33) (by decide) (pc' := 14) rfl (fun c_11 => ?_) (fun c_11 => ?_)
  · try have c_11 := iB_eq c_11
    refine zs_bipush hΓ dX5_turns_33 (pc' := 35) rfl ⟨by decide, by decide⟩ ?_
    exact zs_iret hΓ dX5_turns_35 rfl (by omega) (by omega) (⟨_, rfl, fun z => absurd z.1 c_11, fun _ => ⟨rfl, rfl⟩⟩)
  · try have c_11 := iB_ne c_11
    refine zs_iload_n hΓ dX5_turns_14 (pc' := 15) rfl rfl rfl ?_
    refine zs_iconst hΓ dX5_turns_15 (pc' := 16) rfl ⟨by decide, by decide⟩ ?_
    refine zs_iconst hΓ dX5_turns_16 (pc' := 17) rfl ⟨by decide, by decide⟩ ?_
    refine zs_callSIP hΓ dX5_turns_17 (pc' := 20) rfl kX5_132 (con_X5_isIn l _ _ _) rfl rfl (Nat.le_of_ble_eq_true rfl) (by omega) (by decide) (by omega) (by omega) ?_ (fun _ _ q _ => False.elim q)
    refine zs_ifeq hΓ dX5_turns_20 (tgt := 33) (by decide) (pc' := 23) rfl (fun c_20 => ?_) (fun c_20 => ?_)
    · try have c_20 := iB_eq c_20
      refine zs_bipush hΓ dX5_turns_33 (pc' := 35) rfl ⟨by decide, by decide⟩ ?_
      exact zs_iret hΓ dX5_turns_35 rfl (by omega) (by omega) (⟨_, rfl, fun z => absurd z.2.1 c_20, fun _ => ⟨rfl, rfl⟩⟩)
    · try have c_20 := iB_ne c_20
      refine zs_iload_n hΓ dX5_turns_23 (pc' := 24) rfl rfl rfl ?_
      refine zs_iconst hΓ dX5_turns_24 (pc' := 25) rfl ⟨by decide, by decide⟩ ?_
      refine zs_bipush hΓ dX5_turns_25 (pc' := 27) rfl ⟨by decide, by decide⟩ ?_
      refine zs_callSIP hΓ dX5_turns_27 (pc' := 30) rfl kX5_132 (con_X5_isIn l _ _ _) rfl rfl (Nat.le_of_ble_eq_true rfl) (by omega) (by decide) (by omega) (by omega) ?_ (fun _ _ q _ => False.elim q)
      refine zs_ifne hΓ dX5_turns_30 (tgt := 36) (by decide) (pc' := 33) rfl (fun c_30 => ?_) (fun c_30 => ?_)
      · try have c_30 := iB_ne c_30
        refine zs_iconst hΓ dX5_turns_36 (pc' := 37) rfl ⟨by decide, by decide⟩ ?_
        refine zs_istore hΓ dX5_turns_37 (pc' := 39) rfl (L' := [some (zR _), some (zI _), some (zI _), some (zI _), some (zI _), some (zI _), none, none, none, none]) (by decide) rfl rfl ?_
        refine zs_bipush hΓ dX5_turns_39 (pc' := 41) rfl ⟨by decide, by decide⟩ ?_
        refine zs_iconst hΓ dX5_turns_41 (pc' := 42) rfl ⟨by decide, by decide⟩ ?_
        refine zs_iload_n hΓ dX5_turns_42 (pc' := 43) rfl rfl rfl ?_
        refine zs_iadd hΓ dX5_turns_43 (pc' := 44) rfl (by unfold inI; omega) ?_
        refine zs_imul hΓ dX5_turns_44 (pc' := 45) rfl (by unfold inI; omega) ?_
        refine zs_istore hΓ dX5_turns_45 (pc' := 47) rfl (L' := [some (zR _), some (zI _), some (zI _), some (zI _), some (zI _), some (zI _), some (zI _), none, none, none]) (by decide) rfl rfl ?_
        have h9 := look ⟨c_11, c_20, c_30⟩ (hs habit).length 0 (by omega) (fun j s hj => by omega)
        rw [show 16 * (1 + habit) + ((0 : Nat) : Int) = 16 * (1 + habit) by omega] at h9
        exact h9
      · try have c_30 := iB_eq c_30
        refine zs_bipush hΓ dX5_turns_33 (pc' := 35) rfl ⟨by decide, by decide⟩ ?_
        exact zs_iret hΓ dX5_turns_35 rfl (by omega) (by omega) (⟨_, rfl, fun z => absurd z.2.2 c_30, fun _ => ⟨rfl, rfl⟩⟩)
