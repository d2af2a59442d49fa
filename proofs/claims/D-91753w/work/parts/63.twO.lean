/-! THE TWIN, O: fences, turns -/
set_option maxRecDepth 100000
noncomputable def sF1 (T : Int → Int → Prop) (o : Int → Int) : Nat → Int → Option (Int × Int × Int)
  | 0, _ => none
  | m + 1, i => zIf (¬ T (o i) (-1)) (some (1, o i, -1)) (sF1 T o m (i + 1))
noncomputable def sF2b (T : Int → Int → Prop) (o : Int → Int) (i : Int) : Nat → Int → Option (Int × Int × Int)
  | 0, _ => none
  | m + 1, j => zIf (¬ T (o i) (o j)) (some (2, o i, o j)) (sF2b T o i m (j + 1))
def orO (a b : Option (Int × Int × Int)) : Option (Int × Int × Int) := match a with
  | some x => some x
  | none => b
noncomputable def sF2 (T : Int → Int → Prop) (o : Int → Int) (n : Int) : Nat → Int → Option (Int × Int × Int)
  | 0, _ => none
  | m + 1, i => orO (sF2b T o i (n - (i + 1)).toNat (i + 1)) (sF2 T o n m (i + 1))
noncomputable def sFen (T : Int → Int → Prop) (o : Int → Int) (n : Int) : Option (Int × Int × Int) := zIf (¬ T (-1) (-1)) (some (0, -1, -1)) (orO (sF1 T o n.toNat 0) (sF2 T o n n.toNat 0))
def fAns (q : Option (Int × Int × Int)) : Int := match q with
  | none => -1
  | some q => q.1
/-- what the fences' places hold behind it -/
def fHeap (h h' : zH) (q : Option (Int × Int × Int)) : Prop := match q with
  | none => gI h' (1, 0) 53 = gI h (1, 0) 53 ∧ ∀ j, gI h' (1, 52) j = gI h (1, 52) j
  | some q => gI h' (1, 0) 53 = q.1 ∧ gI h' (1, 52) 0 = q.2.1 ∧ gI h' (1, 52) 1 = q.2.2
def cF (a : zNm) (j : Int) : Prop := cC a j ∨ a = (1, 52) ∨ (a = (1, 0) ∧ j = 53)
theorem cF_no {k j : Int} (h : ¬ (k = 7 ∨ k = 33 ∨ (43 ≤ k ∧ k ≤ 48) ∨ k = 54 ∨ k = 56 ∨ k = 59 ∨ k = 52 ∨ (k = 0 ∧ (34 ≤ j ∧ j ≤ 39 ∨ j = 41 ∨ j = 42 ∨ 49 ≤ j ∧ j ≤ 51 ∨ j = 60 ∨ j = 53)))) : ¬ cF (1, k) j := by
  rintro (z | z | ⟨z, z'⟩)
  · exact cC_no (by omega) z
  · exact n1 (by omega) z
  · have := congrArg Prod.snd z
    simp only at this
    omega
theorem TwD.sameG {C : zNm → Int → Prop} {h h' : zH} {B B' b mu dry : Int} {tx0 : zTx} {hs : Int → zTx} (T : TwD h B b mu dry tx0 hs) (hS : Same C h h') (hC : ∀ k j, 9 ≤ k → k ≤ 17 → ¬ C (1, k) j) (h0 : ∀ j, 28 ≤ j → j ≤ 30 → ¬ C (1, 0) j) (hok : RowOK B' (-1) (gI h' (1, 5))) : TwD h' B' b mu dry tx0 hs :=
  TwD.mk (TwK.mk (T.k.tw.same hS) hok ((hS.2.2 _ _ (h0 _ (by decide) (by decide))).trans T.k.b28) ((hS.2.2 _ _ (h0 _ (by decide) (by decide))).trans T.k.b29) T.k.hb (T.k.t0.same hS hC) (fun t t1 t2 => (T.k.ts t t1 t2).same hS hC)) ((hS.2.2 _ _ (h0 _ (by decide) (by decide))).trans T.d30) T.hd
/-- scratch, the size and place of what is taken with it -/
def cX (a : zNm) (j : Int) : Prop := cC a j ∨ (a = (1, 0) ∧ 3 ≤ j ∧ j ≤ 4)
theorem taken_same (h1 : zH) (N : Int) : Same cX (setI h1 (1, 0) 2 0) (setI (setI (setI h1 (1, 0) 3 N) (1, 0) 2 0) (1, 0) 4 0) := ⟨rfl, rfl, fun a j hn => by
  by_cases e4 : a = (1, 0) ∧ j = 4
  · exact absurd (Or.inr ⟨e4.1, by omega⟩) hn
  rw [gI_setI, if_neg e4, gI_setI, gI_setI, gI_setI]
  by_cases e2 : a = (1, 0) ∧ j = 2
  · rw [if_pos e2, if_pos e2]
  rw [if_neg e2, if_neg e2]
  by_cases e3 : a = (1, 0) ∧ j = 3
  · exact absurd (Or.inr ⟨e3.1, by omega⟩) hn
  rw [if_neg e3]⟩
abbrev okFen (R o : Int → Int) (c ticks n : Int) : Prop := sIsCell R c ∧ (1 ≤ ticks ∧ ticks ≤ 100) ∧ (1 ≤ n ∧ n ≤ 12) ∧ ∀ k, 0 ≤ k → k < n → sIsCell R (o k) ∧ sBears R (o k) ∧ ¬ sDoorAt R (o k) ∧ ¬ sWalkAt R (o k)
theorem con_X5_fences (l : Launch) {h h1 : zH} (e1 : h1 = setI h (1, 0) 0 0) {B b mu dry : Int} {tx0 : zTx} {hs : Int → zTx} (T : TwD h1 B b mu dry tx0 hs) (hB : B ≤ 600000000) {R o : Int → Int} {N : Int} (hR : gI h1 (1, 5) = R) (hO : ∀ k, gI h1 (1, 1) k % 256 = o k) (hN : gI h1 (1, 0) 2 = N) (hsz : 0 ≤ N ∧ N ≤ 440) (h40 : gI h1 (1, 0) 40 = -1) (c ticks : Int) : Con l mX5_fences 11 0 0 [zR (some (1, 0)), zI c, zI ticks] h (rI fun x h' => (okFen R o c ticks N → x = fAns (sFen (sTrod b mu tx0 hs ticks.toNat R c) o N) ∧ Same (fun a j => cF a j ∨ cX a j) (setI h1 (1, 0) 2 0) h' ∧ fHeap h1 h' (sFen (sTrod b mu tx0 hs ticks.toNat R c) o N)) ∧ (¬ okFen R o c ticks N → x = -2 ∧ Same cX (setI h1 (1, 0) 2 0) h')) zNo := by
  refine Con.ofS (by decide +kernel) (Nat.le_of_ble_eq_true rfl) fun Γ hΓ hno hwf hav => ?_
  have hΓ : Ctx Γ l cX5_fences RX5 "fences" 6 (Option.some Jvm.ClassFile.FieldType.int) _ _ 11 _ _ := hΓ
  show SS Γ 0 [some (zR _), some (zI _), some (zI _), none, none, none] [] _ 0 0
  have hTw := T.k.tw.thr e1
  have hok := T.k.ok
  rw [hR] at hok
  have hOr : ∀ k, 0 ≤ o k ∧ o k < 256 := fun k => by rw [← hO]; omega
  have hcs := hok.hd.rw.c
  generalize hTr : sTrod b mu tx0 hs ticks.toNat R c = Tr at hΓ
  generalize hF : sFen Tr o N = F at hΓ
  -- the heap behind 'taken' and with the cell watched
  obtain ⟨hA, hAe⟩ : ∃ hA, hA = setI (setI (setI h1 (1, 0) 3 N) (1, 0) 2 0) (1, 0) 4 0 := ⟨_, rfl⟩
  have sA : Same (fun a j => a = (1, 0) ∧ 2 ≤ j ∧ j ≤ 4) h1 hA := by rw [hAe]; exact (((Same.rf _ _).set ⟨rfl, by decide⟩).set ⟨rfl, by decide⟩).set ⟨rfl, by decide⟩
  have sA2 : Same cX (setI h1 (1, 0) 2 0) hA := by rw [hAe]; exact taken_same h1 N
  have aR : gI hA (1, 5) = R := (sA.row fun _ z => n1 (by decide) z.1).trans hR
  have a3 : gI hA (1, 0) 3 = N := by rw [hAe, gI_setI, if_neg (by decide), gI_setI, if_neg (by decide), gI_setI, if_pos ⟨rfl, rfl⟩]
  have aO : ∀ k, gI hA (1, 1) k % 256 = o k := fun k => by rw [sA.2.2 _ _ (fun z => n1 (by decide) z.1)]; exact hO k
  have st : ∀ h', Same (fun a j => cF a j ∨ (a = (1, 0) ∧ (2 ≤ j ∧ j ≤ 4 ∨ j = 40))) h1 h' → gI h' (1, 5) = R → TwD h' B b mu dry tx0 hs := fun h' hS hr => T.sameG hS (fun k j k1 k2 => by
    rintro (z | ⟨z, -⟩)
    · exact cF_no (by omega) z
    · exact n1 (by omega) z) (fun j j1 j2 => by
    rintro (z | ⟨-, z⟩)
    · exact cF_no (by omega) z
    · omega) (by rw [hr]; exact hok)
  have s1A : Same (fun a j => cF a j ∨ (a = (1, 0) ∧ (2 ≤ j ∧ j ≤ 4 ∨ j = 40))) h1 hA := sA.mono fun a j z => Or.inr ⟨z.1, Or.inl z.2⟩
  obtain ⟨hW, hWe⟩ : ∃ hW, hW = setI hA (1, 0) 40 c := ⟨_, rfl⟩
  have s1W : Same (fun a j => cF a j ∨ (a = (1, 0) ∧ (2 ≤ j ∧ j ≤ 4 ∨ j = 40))) h1 hW := by rw [hWe]; exact s1A.set (Or.inr ⟨rfl, Or.inr rfl⟩)
  have wR : gI hW (1, 5) = R := by rw [hWe, gI_ot _ _ _ (n1 (by decide))]; exact aR
  have w3 : gI hW (1, 0) 3 = N := by rw [hWe, gI_setI, if_neg (by decide)]; exact a3
  have wO : ∀ k, gI hW (1, 1) k % 256 = o k := fun k => by rw [hWe, gI_ot _ _ _ (n1 (by decide))]; exact aO k
  have w40 : gI hW (1, 0) 40 = c := by rw [hWe, gI_setI, if_pos ⟨rfl, rfl⟩]
  have w53 : gI hW (1, 0) 53 = gI h1 (1, 0) 53 := by rw [hWe, gI_setI, if_neg (by decide)]; exact sA.2.2 _ _ (fun z => absurd z.2 (by decide))
  have w52 : ∀ j, gI hW (1, 52) j = gI h1 (1, 52) j := fun j => by rw [hWe, gI_ot _ _ _ (n1 (by decide))]; exact sA.2.2 _ _ (fun z => n1 (by decide) z.1)
  have fc : ∀ h', Same cF hW h' → TwD h' B b mu dry tx0 hs ∧ gI h' (1, 0) 40 = c ∧ gI h' (1, 0) 3 = N ∧ (∀ k, gI h' (1, 1) k % 256 = o k) ∧ gI h' (1, 5) = R := fun h' hS => by
    have r5 : gI h' (1, 5) = R := (hS.row fun _ => cF_no (by omega)).trans wR
    exact ⟨st h' (s1W.tr (hS.mono fun _ _ z => Or.inl z)) r5, (hS.2.2 _ _ (cF_no (by decide))).trans w40, (hS.2.2 _ _ (cF_no (by decide))).trans w3, fun k => by rw [hS.2.2 _ _ (cF_no (by omega))]; exact wO k, r5⟩
  have hTe : okFen R o c ticks N → ∀ (x : Int) (y : Nat), (x = -1 ∨ ∃ k, 0 ≤ k ∧ k < N ∧ x = o k) → (x = -1 ∨ (0 ≤ x ∧ x < 256) ∧ ¬ sDoorAt R x) := fun hk x y h => h.imp id fun ⟨k, k1, k2, e⟩ => ⟨by rw [e]; exact hOr k, by rw [e]; exact (hk.2.2.2 k k1 k2).2.2.1⟩
  have fin : okFen R o c ticks N → ∀ (h' : zH) (f i : Int), Same cF hW h' → f = fAns F → fHeap h1 h' F → SS Γ 272 [some (zR (some (1, 0))), some (zI c), some (zI ticks), some (zI f), some (zI i), none] [] h' 0 0 := by
    intro hk h' f i hS hf hH
    have hTw := (fc h' hS).1.k.tw
    refine zs_aload_n hΓ dX5_fences_272 (pc' := 273) rfl rfl rfl ?_
    refine zs_iconst hΓ dX5_fences_273 (pc' := 274) rfl ⟨by decide, by decide⟩ ?_
    refine zs_puti hΓ dX5_fences_274 (pc' := 277) rfl fX5_86 (fun q hq => (by cases hq; exact Or.inl rfl)) (i9 := 40) rfl trivial (tw_t hTw) (show (0 : Int) ≤ 1 by decide) ?_
    refine zs_iload_n hΓ dX5_fences_277 (pc' := 278) rfl rfl rfl ?_
    have q53 : gI (setI h' (1, 0) 40 (-1)) (1, 0) 53 = gI h' (1, 0) 53 := by rw [gI_setI, if_neg (by decide)]
    have q52 : ∀ j, gI (setI h' (1, 0) 40 (-1)) (1, 52) j = gI h' (1, 52) j := fun j => by rw [gI_ot _ _ _ (n1 (by decide))]
    have qS : Same (fun a j => cF a j ∨ cX a j) (setI h1 (1, 0) 2 0) (setI h' (1, 0) 40 (-1)) := ⟨hS.1.trans (by rw [hWe]; exact sA2.1), hS.2.1.trans (by rw [hWe]; exact sA2.2.1), fun a j hn => by
      by_cases e : a = (1, 0) ∧ j = 40
      · rw [e.1, e.2, gI_setI, if_pos ⟨rfl, rfl⟩, gI_setI, if_neg (by decide)]; exact h40.symm
      · rw [gI_setI, if_neg e, hS.2.2 a j (fun z => hn (Or.inl z)), hWe, gI_setI, if_neg e]
        exact sA2.2.2 a j (fun z => hn (Or.inr z))⟩
    have qH : fHeap h1 (setI h' (1, 0) 40 (-1)) F := by
      cases F with
      | none => exact ⟨q53.trans hH.1, fun j => (q52 j).trans (hH.2 j)⟩
      | some q => exact ⟨q53.trans hH.1, (q52 0).trans hH.2.1, (q52 1).trans hH.2.2⟩
    exact zs_iret hΓ dX5_fences_278 rfl (by omega) (by omega) (⟨_, rfl, fun _ => ⟨hf, qS, qH⟩, fun z => absurd hk z⟩)
  -- once found
  have keepH : ∀ (h' : zH) (n a b9 : Int), Same cF hW h' → Same cF hW (setI (setI (setI h' (1, 0) 53 n) (1, 52) 0 a) (1, 52) 1 b9) ∧ (F = some (n, a, b9) → fHeap h1 (setI (setI (setI h' (1, 0) 53 n) (1, 52) 0 a) (1, 52) 1 b9) F) := fun h' n a b9 hS => ⟨((hS.set (Or.inr (Or.inr ⟨rfl, rfl⟩))).set (Or.inr (Or.inl rfl))).set (Or.inr (Or.inl rfl)), fun e => by
    rw [e]
    exact ⟨by rw [gI_ot _ _ _ (n1 (by decide)), gI_ot _ _ _ (n1 (by decide)), gI_setI, if_pos ⟨rfl, rfl⟩], by rw [gI_setI, if_neg (by decide), gI_setI, if_pos ⟨rfl, rfl⟩], by rw [gI_setI, if_pos ⟨rfl, rfl⟩]⟩⟩
  have fH0 : ∀ h' h'', Same cC h' h'' → (gI h' (1, 0) 53 = gI h1 (1, 0) 53 ∧ ∀ j, gI h' (1, 52) j = gI h1 (1, 52) j) → gI h'' (1, 0) 53 = gI h1 (1, 0) 53 ∧ ∀ j, gI h'' (1, 52) j = gI h1 (1, 52) j := fun h' h'' hS e => ⟨(hS.2.2 _ _ (cC_no (by decide))).trans e.1, fun j => (hS.2.2 _ _ (cC_no (by omega))).trans (e.2 j)⟩
  have lp3 : okFen R o c ticks N → ∀ (i : Int), 0 ≤ i → i < N → ∀ (rest : Option (Int × Int × Int)), (∀ (h' : zH) (f : Int), Same cF hW h' → ((f = -1 ∧ F = rest ∧ gI h' (1, 0) 53 = gI h1 (1, 0) 53 ∧ ∀ j, gI h' (1, 52) j = gI h1 (1, 52) j) ∨ (0 ≤ f ∧ f = fAns F ∧ fHeap h1 h' F)) → SS Γ 190 [some (zR (some (1, 0))), some (zI c), some (zI ticks), some (zI f), some (zI (i + 1)), none] [] h' 0 0) → ∀ (m : Nat) (j : Int) (h' : zH) (f : Int), j + m = N → 0 ≤ j → Same cF hW h' → ((f = -1 ∧ F = orO (sF2b Tr o i m j) rest ∧ gI h' (1, 0) 53 = gI h1 (1, 0) 53 ∧ ∀ j, gI h' (1, 52) j = gI h1 (1, 52) j) ∨ (0 ≤ f ∧ f = fAns F ∧ fHeap h1 h' F)) → SS Γ 209 [some (zR (some (1, 0))), some (zI c), some (zI ticks), some (zI f), some (zI i), some (zI j)] [] h' 0 0 := by
    intro hk i hi0 hi rest hout m
    induction m with
    | zero =>
      intro j h' f hj hj0 hS hf
      obtain ⟨T', t40, t3, tO, t5⟩ := fc h' hS
      have hTw := T'.k.tw
      refine zs_iload hΓ dX5_fences_209 (pc' := 211) rfl rfl ?_
      refine zs_aload_n hΓ dX5_fences_211 (pc' := 212) rfl rfl rfl ?_
      refine zs_geti hΓ dX5_fences_212 (pc' := 215) rfl fX5_18 (i9 := 3) rfl rfl (tw_t hTw) ?_
      refine zs_eqI t3 ?_
      refine zs_icmpge hΓ dX5_fences_215 (tgt := 266) (by decide) (pc' := 218) rfl (fun c_215 => ?_) (fun c_215 => False.elim (absurd c_215 (by omega)))
      refine zs_iinc hΓ dX5_fences_266 (pc' := 269) rfl (L' := [some (zR _), some (zI _), some (zI _), some (zI _), some (zI _), some (zI _)]) rfl (by unfold inI; omega) (by decide) rfl rfl ?_
      refine zs_goto hΓ dX5_fences_269 (tgt := 190) (by decide) ?_
      refine zs_drop 5 (L' := [some (zR _), some (zI _), some (zI _), some (zI _), some (zI _), none]) rfl ?_
      exact hout h' f hS hf
    | succ m ih =>
      intro j h' f hj hj0 hS hf
      obtain ⟨T', t40, t3, tO, t5⟩ := fc h' hS
      have hTw := T'.k.tw
      have hu : sF2b Tr o i (m + 1) j = zIf (¬ Tr (o i) (o j)) (some (2, o i, o j)) (sF2b Tr o i m (j + 1)) := rfl
      refine zs_iload hΓ dX5_fences_209 (pc' := 211) rfl rfl ?_
      refine zs_aload_n hΓ dX5_fences_211 (pc' := 212) rfl rfl rfl ?_
      refine zs_geti hΓ dX5_fences_212 (pc' := 215) rfl fX5_18 (i9 := 3) rfl rfl (tw_t hTw) ?_
      refine zs_eqI t3 ?_
      refine zs_icmpge hΓ dX5_fences_215 (tgt := 266) (by decide) (pc' := 218) rfl (fun c_215 => False.elim (absurd c_215 (by omega))) (fun c_215 => ?_)
      refine zs_iload_n hΓ dX5_fences_218 (pc' := 219) rfl rfl rfl ?_
      refine zs_ifge hΓ dX5_fences_219 (tgt := 266) (by decide) (pc' := 222) rfl (fun c_219 => ?_) (fun c_219 => ?_)
      · refine zs_iinc hΓ dX5_fences_266 (pc' := 269) rfl (L' := [some (zR _), some (zI _), some (zI _), some (zI _), some (zI _), some (zI _)]) rfl (by unfold inI; omega) (by decide) rfl rfl ?_
        refine zs_goto hΓ dX5_fences_269 (tgt := 190) (by decide) ?_
        refine zs_drop 5 (L' := [some (zR _), some (zI _), some (zI _), some (zI _), some (zI _), none]) rfl ?_
        exact hout h' f hS (hf.imp (fun z => by omega) id)
      · refine zs_aload_n hΓ dX5_fences_222 (pc' := 223) rfl rfl rfl ?_
        refine zs_aload_n hΓ dX5_fences_223 (pc' := 224) rfl rfl rfl ?_
        refine zs_iload hΓ dX5_fences_224 (pc' := 226) rfl rfl ?_
        refine zs_callVIP hΓ dX5_fences_226 (pc' := 229) rfl kX5_147 (con_X5_octet l hTw i (by omega)) (tw_t hTw) rfl rfl rfl (Nat.le_of_ble_eq_true rfl) (by omega) (by decide) (by omega) (by omega) ?_ (fun _ _ q _ => False.elim q)
        rw [tO]
        refine zs_aload_n hΓ dX5_fences_229 (pc' := 230) rfl rfl rfl ?_
        refine zs_iload hΓ dX5_fences_230 (pc' := 232) rfl rfl ?_
        refine zs_callVIP hΓ dX5_fences_232 (pc' := 235) rfl kX5_147 (con_X5_octet l hTw j (by omega)) (tw_t hTw) rfl rfl rfl (Nat.le_of_ble_eq_true rfl) (by omega) (by decide) (by omega) (by omega) ?_ (fun _ _ q _ => False.elim q)
        rw [tO]
        refine zs_iload_n hΓ dX5_fences_235 (pc' := 236) rfl rfl rfl ?_
        refine zs_callVI hΓ dX5_fences_236 (pc' := 239) rfl kX5_488 (con_X5_isTrod l T' hB (o i) (o j) ticks c hk.2.1 t40 hk.1.1 (by rw [t5]; exact hTe hk _ 0 (Or.inr ⟨i, hi0, hi, rfl⟩)) (by rw [t5]; exact hTe hk _ 0 (Or.inr ⟨j, hj0, by omega, rfl⟩))) (tw_t hTw) rfl rfl rfl (Nat.le_of_ble_eq_true rfl) (by omega) (by decide) (by omega) (by omega) (fun x_236 h_236 q_236 k_236 => ?_) (fun _ _ q _ => False.elim q)
        obtain ⟨rfl, p1⟩ := q_236
        rw [t5, hTr]
        have hf := hf.resolve_right (fun z => by omega)
        have hS2 := hS.tr (p1.mono fun _ _ z => Or.inl z)
        obtain ⟨T2, u40, u3, uO, u5⟩ := fc _ hS2
        have hTw := T2.k.tw
        refine zs_ifne hΓ dX5_fences_239 (tgt := 260) (by decide) (pc' := 242) rfl (fun c_239 => ?_) (fun c_239 => ?_)
        · try have c_239 := iB_ne c_239
          refine zs_iinc hΓ dX5_fences_260 (pc' := 263) rfl (L' := [some (zR _), some (zI _), some (zI _), some (zI _), some (zI _), some (zI _)]) rfl (by unfold inI; omega) (by decide) rfl rfl ?_
          refine zs_goto hΓ dX5_fences_263 (tgt := 209) (by decide) ?_
          exact ih (j + 1) _ f (by omega) (by omega) hS2 (Or.inl ⟨hf.1, by rw [hf.2.1, hu, zIf_f (fun z => z c_239)], fH0 _ _ p1 hf.2.2⟩)
        · try have c_239 := iB_eq c_239
          refine zs_aload_n hΓ dX5_fences_242 (pc' := 243) rfl rfl rfl ?_
          refine zs_iconst hΓ dX5_fences_243 (pc' := 244) rfl ⟨by decide, by decide⟩ ?_
          refine zs_aload_n hΓ dX5_fences_244 (pc' := 245) rfl rfl rfl ?_
          refine zs_iload hΓ dX5_fences_245 (pc' := 247) rfl rfl ?_
          refine zs_callVIP hΓ dX5_fences_247 (pc' := 250) rfl kX5_147 (con_X5_octet l hTw i (by omega)) (tw_t hTw) rfl rfl rfl (Nat.le_of_ble_eq_true rfl) (by omega) (by decide) (by omega) (by omega) ?_ (fun _ _ q _ => False.elim q)
          rw [uO]
          refine zs_aload_n hΓ dX5_fences_250 (pc' := 251) rfl rfl rfl ?_
          refine zs_iload hΓ dX5_fences_251 (pc' := 253) rfl rfl ?_
          refine zs_callVIP hΓ dX5_fences_253 (pc' := 256) rfl kX5_147 (con_X5_octet l hTw j (by omega)) (tw_t hTw) rfl rfl rfl (Nat.le_of_ble_eq_true rfl) (by omega) (by decide) (by omega) (by omega) ?_ (fun _ _ q _ => False.elim q)
          rw [uO]
          refine zs_callVIE hΓ dX5_fences_256 (pc' := 259) rfl kX5_491 (con_X5_keep l hTw 2 (o i) (o j)) (tw_t hTw) rfl rfl rfl (Nat.le_of_ble_eq_true rfl) (by omega) (by decide) (by omega) (by omega) ?_ (fun _ _ q _ => False.elim q)
          refine zs_istore_n hΓ dX5_fences_259 (pc' := 260) rfl (L' := [some (zR _), some (zI _), some (zI _), some (zI _), some (zI _), some (zI _)]) rfl (by decide) rfl rfl ?_
          refine zs_iinc hΓ dX5_fences_260 (pc' := 263) rfl (L' := [some (zR _), some (zI _), some (zI _), some (zI _), some (zI _), some (zI _)]) rfl (by unfold inI; omega) (by decide) rfl rfl ?_
          refine zs_goto hΓ dX5_fences_263 (tgt := 209) (by decide) ?_
          have hF9 : F = some (2, o i, o j) := by rw [hf.2.1, hu, zIf_t c_239]; rfl
          exact ih (j + 1) _ 2 (by omega) (by omega) (keepH _ 2 (o i) (o j) hS2).1 (Or.inr ⟨by decide, by rw [hF9]; rfl, (keepH _ 2 (o i) (o j) hS2).2 hF9⟩)
  have lp2 : okFen R o c ticks N → ∀ (m : Nat) (i : Int) (h' : zH) (f : Int), i + m = N → 0 ≤ i → Same cF hW h' → ((f = -1 ∧ F = sF2 Tr o N m i ∧ gI h' (1, 0) 53 = gI h1 (1, 0) 53 ∧ ∀ j, gI h' (1, 52) j = gI h1 (1, 52) j) ∨ (0 ≤ f ∧ f = fAns F ∧ fHeap h1 h' F)) → SS Γ 190 [some (zR (some (1, 0))), some (zI c), some (zI ticks), some (zI f), some (zI i), none] [] h' 0 0 := by
    intro hk m
    have ex : ∀ (i : Int) (h' : zH) (f : Int), Same cF hW h' → ((f = -1 ∧ F = none ∧ gI h' (1, 0) 53 = gI h1 (1, 0) 53 ∧ ∀ j, gI h' (1, 52) j = gI h1 (1, 52) j) ∨ (0 ≤ f ∧ f = fAns F ∧ fHeap h1 h' F)) → SS Γ 272 [some (zR (some (1, 0))), some (zI c), some (zI ticks), some (zI f), some (zI i), none] [] h' 0 0 := fun i h' f hS hf => fin hk h' f i hS (by rcases hf with z | z; rw [z.1, z.2.1]; rfl; exact z.2.1) (by rcases hf with z | z; rw [z.2.1]; exact z.2.2; exact z.2.2)
    induction m with
    | zero =>
      intro i h' f hi hi0 hS hf
      obtain ⟨T', t40, t3, tO, t5⟩ := fc h' hS
      have hTw := T'.k.tw
      refine zs_iload hΓ dX5_fences_190 (pc' := 192) rfl rfl ?_
      refine zs_aload_n hΓ dX5_fences_192 (pc' := 193) rfl rfl rfl ?_
      refine zs_geti hΓ dX5_fences_193 (pc' := 196) rfl fX5_18 (i9 := 3) rfl rfl (tw_t hTw) ?_
      refine zs_eqI t3 ?_
      refine zs_icmpge hΓ dX5_fences_196 (tgt := 272) (by decide) (pc' := 199) rfl (fun c_196 => ?_) (fun c_196 => False.elim (absurd c_196 (by omega)))
      exact ex i h' f hS hf
    | succ m ih =>
      intro i h' f hi hi0 hS hf
      obtain ⟨T', t40, t3, tO, t5⟩ := fc h' hS
      have hTw := T'.k.tw
      refine zs_iload hΓ dX5_fences_190 (pc' := 192) rfl rfl ?_
      refine zs_aload_n hΓ dX5_fences_192 (pc' := 193) rfl rfl rfl ?_
      refine zs_geti hΓ dX5_fences_193 (pc' := 196) rfl fX5_18 (i9 := 3) rfl rfl (tw_t hTw) ?_
      refine zs_eqI t3 ?_
      refine zs_icmpge hΓ dX5_fences_196 (tgt := 272) (by decide) (pc' := 199) rfl (fun c_196 => False.elim (absurd c_196 (by omega))) (fun c_196 => ?_)
      refine zs_iload_n hΓ dX5_fences_199 (pc' := 200) rfl rfl rfl ?_
      refine zs_ifge hΓ dX5_fences_200 (tgt := 272) (by decide) (pc' := 203) rfl (fun c_200 => ?_) (fun c_200 => ?_)
      · exact fin hk h' f i hS (by rcases hf with z | z; omega; exact z.2.1) (by rcases hf with z | z; omega; exact z.2.2)
      · refine zs_iload hΓ dX5_fences_203 (pc' := 205) rfl rfl ?_
        refine zs_iconst hΓ dX5_fences_205 (pc' := 206) rfl ⟨by decide, by decide⟩ ?_
        refine zs_iadd hΓ dX5_fences_206 (pc' := 207) rfl (by unfold inI; omega) ?_
        refine zs_istore hΓ dX5_fences_207 (pc' := 209) rfl (L' := [some (zR _), some (zI _), some (zI _), some (zI _), some (zI _), some (zI _)]) (by decide) rfl rfl ?_
        exact lp3 hk i hi0 (by omega) (sF2 Tr o N m (i + 1)) (fun h'' f' a1 a2 => ih (i + 1) h'' f' (by omega) (by omega) a1 a2) (N - (i + 1)).toNat (i + 1) h' f (by omega) (by omega) hS hf
  have lp1 : okFen R o c ticks N → ∀ (m : Nat) (i : Int) (h' : zH) (f : Int), i + m = N → 0 ≤ i → Same cF hW h' → ((f = -1 ∧ F = orO (sF1 Tr o m i) (sF2 Tr o N N.toNat 0) ∧ gI h' (1, 0) 53 = gI h1 (1, 0) 53 ∧ ∀ j, gI h' (1, 52) j = gI h1 (1, 52) j) ∨ (0 ≤ f ∧ f = fAns F ∧ fHeap h1 h' F)) → SS Γ 140 [some (zR (some (1, 0))), some (zI c), some (zI ticks), some (zI f), some (zI i), none] [] h' 0 0 := by
    intro hk m
    induction m with
    | zero =>
      intro i h' f hi hi0 hS hf
      obtain ⟨T', t40, t3, tO, t5⟩ := fc h' hS
      have hTw := T'.k.tw
      refine zs_iload hΓ dX5_fences_140 (pc' := 142) rfl rfl ?_
      refine zs_aload_n hΓ dX5_fences_142 (pc' := 143) rfl rfl rfl ?_
      refine zs_geti hΓ dX5_fences_143 (pc' := 146) rfl fX5_18 (i9 := 3) rfl rfl (tw_t hTw) ?_
      refine zs_eqI t3 ?_
      refine zs_icmpge hΓ dX5_fences_146 (tgt := 187) (by decide) (pc' := 149) rfl (fun c_146 => ?_) (fun c_146 => False.elim (absurd c_146 (by omega)))
      refine zs_iconst hΓ dX5_fences_187 (pc' := 188) rfl ⟨by decide, by decide⟩ ?_
      refine zs_istore hΓ dX5_fences_188 (pc' := 190) rfl (L' := [some (zR _), some (zI _), some (zI _), some (zI _), some (zI _), none]) (by decide) rfl rfl ?_
      exact lp2 hk N.toNat 0 h' f (by omega) (by omega) hS hf
    | succ m ih =>
      intro i h' f hi hi0 hS hf
      obtain ⟨T', t40, t3, tO, t5⟩ := fc h' hS
      have hTw := T'.k.tw
      have hu : sF1 Tr o (m + 1) i = zIf (¬ Tr (o i) (-1)) (some (1, o i, -1)) (sF1 Tr o m (i + 1)) := rfl
      refine zs_iload hΓ dX5_fences_140 (pc' := 142) rfl rfl ?_
      refine zs_aload_n hΓ dX5_fences_142 (pc' := 143) rfl rfl rfl ?_
      refine zs_geti hΓ dX5_fences_143 (pc' := 146) rfl fX5_18 (i9 := 3) rfl rfl (tw_t hTw) ?_
      refine zs_eqI t3 ?_
      refine zs_icmpge hΓ dX5_fences_146 (tgt := 187) (by decide) (pc' := 149) rfl (fun c_146 => False.elim (absurd c_146 (by omega))) (fun c_146 => ?_)
      refine zs_iload_n hΓ dX5_fences_149 (pc' := 150) rfl rfl rfl ?_
      refine zs_ifge hΓ dX5_fences_150 (tgt := 187) (by decide) (pc' := 153) rfl (fun c_150 => ?_) (fun c_150 => ?_)
      · refine zs_iconst hΓ dX5_fences_187 (pc' := 188) rfl ⟨by decide, by decide⟩ ?_
        refine zs_istore hΓ dX5_fences_188 (pc' := 190) rfl (L' := [some (zR _), some (zI _), some (zI _), some (zI _), some (zI _), none]) (by decide) rfl rfl ?_
        exact lp2 hk N.toNat 0 h' f (by omega) (by omega) hS (hf.imp (fun z => by omega) id)
      · refine zs_aload_n hΓ dX5_fences_153 (pc' := 154) rfl rfl rfl ?_
        refine zs_aload_n hΓ dX5_fences_154 (pc' := 155) rfl rfl rfl ?_
        refine zs_iload hΓ dX5_fences_155 (pc' := 157) rfl rfl ?_
        refine zs_callVIP hΓ dX5_fences_157 (pc' := 160) rfl kX5_147 (con_X5_octet l hTw i (by omega)) (tw_t hTw) rfl rfl rfl (Nat.le_of_ble_eq_true rfl) (by omega) (by decide) (by omega) (by omega) ?_ (fun _ _ q _ => False.elim q)
        rw [tO]
        refine zs_iconst hΓ dX5_fences_160 (pc' := 161) rfl ⟨by decide, by decide⟩ ?_
        refine zs_iload_n hΓ dX5_fences_161 (pc' := 162) rfl rfl rfl ?_
        refine zs_callVI hΓ dX5_fences_162 (pc' := 165) rfl kX5_488 (con_X5_isTrod l T' hB (o i) (-1) ticks c hk.2.1 t40 hk.1.1 (by rw [t5]; exact hTe hk _ 0 (Or.inr ⟨i, hi0, by omega, rfl⟩)) (Or.inl rfl)) (tw_t hTw) rfl rfl rfl (Nat.le_of_ble_eq_true rfl) (by omega) (by decide) (by omega) (by omega) (fun x_162 h_162 q_162 k_162 => ?_) (fun _ _ q _ => False.elim q)
        obtain ⟨rfl, p1⟩ := q_162
        rw [t5, hTr]
        have hf := hf.resolve_right (fun z => by omega)
        have hS2 := hS.tr (p1.mono fun _ _ z => Or.inl z)
        obtain ⟨T2, u40, u3, uO, u5⟩ := fc _ hS2
        have hTw := T2.k.tw
        refine zs_ifne hΓ dX5_fences_165 (tgt := 181) (by decide) (pc' := 168) rfl (fun c_165 => ?_) (fun c_165 => ?_)
        · try have c_165 := iB_ne c_165
          refine zs_iinc hΓ dX5_fences_181 (pc' := 184) rfl (L' := [some (zR _), some (zI _), some (zI _), some (zI _), some (zI _), none]) rfl (by unfold inI; omega) (by decide) rfl rfl ?_
          refine zs_goto hΓ dX5_fences_184 (tgt := 140) (by decide) ?_
          exact ih (i + 1) _ f (by omega) (by omega) hS2 (Or.inl ⟨hf.1, by rw [hf.2.1, hu, zIf_f (fun z => z c_165)], fH0 _ _ p1 hf.2.2⟩)
        · try have c_165 := iB_eq c_165
          refine zs_aload_n hΓ dX5_fences_168 (pc' := 169) rfl rfl rfl ?_
          refine zs_iconst hΓ dX5_fences_169 (pc' := 170) rfl ⟨by decide, by decide⟩ ?_
          refine zs_aload_n hΓ dX5_fences_170 (pc' := 171) rfl rfl rfl ?_
          refine zs_iload hΓ dX5_fences_171 (pc' := 173) rfl rfl ?_
          refine zs_callVIP hΓ dX5_fences_173 (pc' := 176) rfl kX5_147 (con_X5_octet l hTw i (by omega)) (tw_t hTw) rfl rfl rfl (Nat.le_of_ble_eq_true rfl) (by omega) (by decide) (by omega) (by omega) ?_ (fun _ _ q _ => False.elim q)
          rw [uO]
          refine zs_iconst hΓ dX5_fences_176 (pc' := 177) rfl ⟨by decide, by decide⟩ ?_
          refine zs_callVIE hΓ dX5_fences_177 (pc' := 180) rfl kX5_491 (con_X5_keep l hTw 1 (o i) (-1)) (tw_t hTw) rfl rfl rfl (Nat.le_of_ble_eq_true rfl) (by omega) (by decide) (by omega) (by omega) ?_ (fun _ _ q _ => False.elim q)
          refine zs_istore_n hΓ dX5_fences_180 (pc' := 181) rfl (L' := [some (zR _), some (zI _), some (zI _), some (zI _), some (zI _), none]) rfl (by decide) rfl rfl ?_
          refine zs_iinc hΓ dX5_fences_181 (pc' := 184) rfl (L' := [some (zR _), some (zI _), some (zI _), some (zI _), some (zI _), none]) rfl (by unfold inI; omega) (by decide) rfl rfl ?_
          refine zs_goto hΓ dX5_fences_184 (tgt := 140) (by decide) ?_
          have hF9 : F = some (1, o i, -1) := by rw [hf.2.1, hu, zIf_t c_165]; rfl
          exact ih (i + 1) _ 1 (by omega) (by omega) (keepH _ 1 (o i) (-1) hS2).1 (Or.inr ⟨by decide, by rw [hF9]; rfl, (keepH _ 1 (o i) (-1) hS2).2 hF9⟩)
  have run : okFen R o c ticks N → SS Γ 115 [some (zR (some (1, 0))), some (zI c), some (zI ticks), none, none, none] [] hW 0 0 := by
    intro hk
    obtain ⟨T', t40, t3, tO, t5⟩ := fc hW (Same.rf _ _)
    have hTw := T'.k.tw
    have hFe : F = zIf (¬ Tr (-1) (-1)) (some (0, -1, -1)) (orO (sF1 Tr o N.toNat 0) (sF2 Tr o N N.toNat 0)) := hF.symm
    refine zs_aload_n hΓ dX5_fences_115 (pc' := 116) rfl rfl rfl ?_
    refine zs_iconst hΓ dX5_fences_116 (pc' := 117) rfl ⟨by decide, by decide⟩ ?_
    refine zs_iconst hΓ dX5_fences_117 (pc' := 118) rfl ⟨by decide, by decide⟩ ?_
    refine zs_iload_n hΓ dX5_fences_118 (pc' := 119) rfl rfl rfl ?_
    refine zs_callVI hΓ dX5_fences_119 (pc' := 122) rfl kX5_488 (con_X5_isTrod l T' hB (-1) (-1) ticks c hk.2.1 t40 hk.1.1 (Or.inl rfl) (Or.inl rfl)) (tw_t hTw) rfl rfl rfl (Nat.le_of_ble_eq_true rfl) (by omega) (by decide) (by omega) (by omega) (fun x_119 h_119 q_119 k_119 => ?_) (fun _ _ q _ => False.elim q)
    obtain ⟨rfl, p1⟩ := q_119
    rw [t5, hTr]
    have hS2 : Same cF hW h_119 := p1.mono fun _ _ z => Or.inl z
    obtain ⟨T2, u40, u3, uO, u5⟩ := fc _ hS2
    have hTw := T2.k.tw
    refine zs_ifeq hΓ dX5_fences_122 (tgt := 129) (by decide) (pc' := 125) rfl (fun c_122 => ?_) (fun c_122 => ?_)
    · try have c_122 := iB_eq c_122
      refine zs_aload_n hΓ dX5_fences_129 (pc' := 130) rfl rfl rfl ?_
      refine zs_iconst hΓ dX5_fences_130 (pc' := 131) rfl ⟨by decide, by decide⟩ ?_
      refine zs_iconst hΓ dX5_fences_131 (pc' := 132) rfl ⟨by decide, by decide⟩ ?_
      refine zs_iconst hΓ dX5_fences_132 (pc' := 133) rfl ⟨by decide, by decide⟩ ?_
      refine zs_callVIE hΓ dX5_fences_133 (pc' := 136) rfl kX5_491 (con_X5_keep l hTw 0 (-1) (-1)) (tw_t hTw) rfl rfl rfl (Nat.le_of_ble_eq_true rfl) (by omega) (by decide) (by omega) (by omega) ?_ (fun _ _ q _ => False.elim q)
      refine zs_istore_n hΓ dX5_fences_136 (pc' := 137) rfl (L' := [some (zR _), some (zI _), some (zI _), some (zI _), none, none]) rfl (by decide) rfl rfl ?_
      refine zs_iconst hΓ dX5_fences_137 (pc' := 138) rfl ⟨by decide, by decide⟩ ?_
      refine zs_istore hΓ dX5_fences_138 (pc' := 140) rfl (L' := [some (zR _), some (zI _), some (zI _), some (zI _), some (zI _), none]) (by decide) rfl rfl ?_
      have hF9 : F = some (0, -1, -1) := by rw [hFe, zIf_t c_122]
      exact lp1 hk N.toNat 0 _ 0 (by omega) (by omega) (keepH _ 0 (-1) (-1) hS2).1 (Or.inr ⟨by decide, by rw [hF9]; rfl, (keepH _ 0 (-1) (-1) hS2).2 hF9⟩)
    · try have c_122 := iB_ne c_122
      refine zs_iconst hΓ dX5_fences_125 (pc' := 126) rfl ⟨by decide, by decide⟩ ?_
      refine zs_goto hΓ dX5_fences_126 (tgt := 136) (by decide) ?_
      refine zs_istore_n hΓ dX5_fences_136 (pc' := 137) rfl (L' := [some (zR _), some (zI _), some (zI _), some (zI _), none, none]) rfl (by decide) rfl rfl ?_
      refine zs_iconst hΓ dX5_fences_137 (pc' := 138) rfl ⟨by decide, by decide⟩ ?_
      refine zs_istore hΓ dX5_fences_138 (pc' := 140) rfl (L' := [some (zR _), some (zI _), some (zI _), some (zI _), some (zI _), none]) (by decide) rfl rfl ?_
      exact lp1 hk N.toNat 0 _ (-1) (by omega) (by omega) hS2 (Or.inl ⟨rfl, by rw [hFe, zIf_f (fun z => z c_122)], fH0 _ _ p1 ⟨w53, w52⟩⟩)
  have hTA : TwD hA B b mu dry tx0 hs := st hA s1A aR
  have chk : sIsCell R c → (1 ≤ ticks ∧ ticks ≤ 100) → (1 ≤ N ∧ N ≤ 12) → ∀ (m : Nat) (i : Int), i + m = N → 0 ≤ i → (∀ k, 0 ≤ k → k < i → sIsCell R (o k) ∧ sBears R (o k) ∧ ¬ sDoorAt R (o k) ∧ ¬ sWalkAt R (o k)) → SS Γ 45 [some (zR (some (1, 0))), some (zI c), some (zI ticks), some (zI i), none, none] [] hA 0 0 := by
    intro k1 k2 k3 m
    have hTw := hTA.k.tw
    induction m with
    | zero =>
      intro i hi hi0 hal
      refine zs_iload_n hΓ dX5_fences_45 (pc' := 46) rfl rfl rfl ?_
      refine zs_aload_n hΓ dX5_fences_46 (pc' := 47) rfl rfl rfl ?_
      refine zs_geti hΓ dX5_fences_47 (pc' := 50) rfl fX5_18 (i9 := 3) rfl rfl (tw_t hTw) ?_
      refine zs_eqI a3 ?_
      refine zs_icmpge hΓ dX5_fences_50 (tgt := 110) (by decide) (pc' := 53) rfl (fun c_50 => ?_) (fun c_50 => False.elim (absurd c_50 (by omega)))
      refine zs_aload_n hΓ dX5_fences_110 (pc' := 111) rfl rfl rfl ?_
      refine zs_iload_n hΓ dX5_fences_111 (pc' := 112) rfl rfl rfl ?_
      refine zs_puti hΓ dX5_fences_112 (pc' := 115) rfl fX5_86 (fun q hq => (by cases hq; exact Or.inl rfl)) (i9 := 40) rfl trivial (tw_t hTw) (show (0 : Int) ≤ 1 by decide) ?_
      refine zs_drop 3 (L' := [some (zR _), some (zI _), some (zI _), none, none, none]) rfl ?_
      rw [← hWe]; exact run ⟨k1, k2, k3, fun k q1 q2 => hal k q1 (by omega)⟩
    | succ m ih =>
      intro i hi hi0 hal
      have hno : ¬ (sIsCell R (o i) ∧ sBears R (o i) ∧ ¬ sDoorAt R (o i) ∧ ¬ sWalkAt R (o i)) → ¬ okFen R o c ticks N := fun z q => z (q.2.2.2 i hi0 (by omega))
      have hor := hOr i
      refine zs_iload_n hΓ dX5_fences_45 (pc' := 46) rfl rfl rfl ?_
      refine zs_aload_n hΓ dX5_fences_46 (pc' := 47) rfl rfl rfl ?_
      refine zs_geti hΓ dX5_fences_47 (pc' := 50) rfl fX5_18 (i9 := 3) rfl rfl (tw_t hTw) ?_
      refine zs_eqI a3 ?_
      refine zs_icmpge hΓ dX5_fences_50 (tgt := 110) (by decide) (pc' := 53) rfl (fun c_50 => False.elim (absurd c_50 (by omega))) (fun c_50 => ?_)
      refine zs_aload_n hΓ dX5_fences_53 (pc' := 54) rfl rfl rfl ?_
      refine zs_aload_n hΓ dX5_fences_54 (pc' := 55) rfl rfl rfl ?_
      refine zs_iload_n hΓ dX5_fences_55 (pc' := 56) rfl rfl rfl ?_
      refine zs_callVIP hΓ dX5_fences_56 (pc' := 59) rfl kX5_147 (con_X5_octet l hTw i (by omega)) (tw_t hTw) rfl rfl rfl (Nat.le_of_ble_eq_true rfl) (by omega) (by decide) (by omega) (by omega) ?_ (fun _ _ q _ => False.elim q)
      rw [aO]
      refine zs_callVIP hΓ dX5_fences_59 (pc' := 62) rfl kX5_155 (con_X5_isCell l hTw (by rw [aR]; exact hok.hd.rw) (o i)) (tw_t hTw) rfl rfl rfl (Nat.le_of_ble_eq_true rfl) (by omega) (by decide) (by omega) (by omega) ?_ (fun _ _ q _ => False.elim q)
      rw [aR]
      refine zs_ifeq hΓ dX5_fences_62 (tgt := 101) (by decide) (pc' := 65) rfl (fun c_62 => ?_) (fun c_62 => ?_)
      · try have c_62 := iB_eq c_62
        refine zs_bipush hΓ dX5_fences_101 (pc' := 103) rfl ⟨by decide, by decide⟩ ?_
        exact zs_iret hΓ dX5_fences_103 rfl (by omega) (by omega) (⟨_, rfl, fun z => absurd z (hno fun q => c_62 q.1), fun _ => ⟨rfl, sA2⟩⟩)
      · try have c_62 := iB_ne c_62
        refine zs_aload_n hΓ dX5_fences_65 (pc' := 66) rfl rfl rfl ?_
        refine zs_aload_n hΓ dX5_fences_66 (pc' := 67) rfl rfl rfl ?_
        refine zs_iload_n hΓ dX5_fences_67 (pc' := 68) rfl rfl rfl ?_
        refine zs_callVIP hΓ dX5_fences_68 (pc' := 71) rfl kX5_147 (con_X5_octet l hTw i (by omega)) (tw_t hTw) rfl rfl rfl (Nat.le_of_ble_eq_true rfl) (by omega) (by decide) (by omega) (by omega) ?_ (fun _ _ q _ => False.elim q)
        rw [aO]
        refine zs_callVIP hΓ dX5_fences_71 (pc' := 74) rfl kX5_158 (con_X5_bears l hTw (o i) hor) (tw_t hTw) rfl rfl rfl (Nat.le_of_ble_eq_true rfl) (by omega) (by decide) (by omega) (by omega) ?_ (fun _ _ q _ => False.elim q)
        rw [aR]
        refine zs_ifeq hΓ dX5_fences_74 (tgt := 101) (by decide) (pc' := 77) rfl (fun c_74 => ?_) (fun c_74 => ?_)
        · try have c_74 := iB_eq c_74
          refine zs_bipush hΓ dX5_fences_101 (pc' := 103) rfl ⟨by decide, by decide⟩ ?_
          exact zs_iret hΓ dX5_fences_103 rfl (by omega) (by omega) (⟨_, rfl, fun z => absurd z (hno fun q => c_74 q.2.1), fun _ => ⟨rfl, sA2⟩⟩)
        · try have c_74 := iB_ne c_74
          refine zs_aload_n hΓ dX5_fences_77 (pc' := 78) rfl rfl rfl ?_
          refine zs_aload_n hΓ dX5_fences_78 (pc' := 79) rfl rfl rfl ?_
          refine zs_iload_n hΓ dX5_fences_79 (pc' := 80) rfl rfl rfl ?_
          refine zs_callVIP hΓ dX5_fences_80 (pc' := 83) rfl kX5_147 (con_X5_octet l hTw i (by omega)) (tw_t hTw) rfl rfl rfl (Nat.le_of_ble_eq_true rfl) (by omega) (by decide) (by omega) (by omega) ?_ (fun _ _ q _ => False.elim q)
          rw [aO]
          refine zs_callVIP hΓ dX5_fences_83 (pc' := 86) rfl kX5_161 (con_X5_isDoorAt l hTw (o i) (by rw [aR]; exact hok.hd.d)) (tw_t hTw) rfl rfl rfl (Nat.le_of_ble_eq_true rfl) (by omega) (by decide) (by omega) (by omega) ?_ (fun _ _ q _ => False.elim q)
          rw [aR]
          refine zs_ifne hΓ dX5_fences_86 (tgt := 101) (by decide) (pc' := 89) rfl (fun c_86 => ?_) (fun c_86 => ?_)
          · try have c_86 := iB_ne c_86
            refine zs_bipush hΓ dX5_fences_101 (pc' := 103) rfl ⟨by decide, by decide⟩ ?_
            exact zs_iret hΓ dX5_fences_103 rfl (by omega) (by omega) (⟨_, rfl, fun z => absurd z (hno fun q => q.2.2.1 c_86), fun _ => ⟨rfl, sA2⟩⟩)
          · try have c_86 := iB_eq c_86
            refine zs_aload_n hΓ dX5_fences_89 (pc' := 90) rfl rfl rfl ?_
            refine zs_aload_n hΓ dX5_fences_90 (pc' := 91) rfl rfl rfl ?_
            refine zs_iload_n hΓ dX5_fences_91 (pc' := 92) rfl rfl rfl ?_
            refine zs_callVIP hΓ dX5_fences_92 (pc' := 95) rfl kX5_147 (con_X5_octet l hTw i (by omega)) (tw_t hTw) rfl rfl rfl (Nat.le_of_ble_eq_true rfl) (by omega) (by decide) (by omega) (by omega) ?_ (fun _ _ q _ => False.elim q)
            rw [aO]
            refine zs_callVIP hΓ dX5_fences_95 (pc' := 98) rfl kX5_432 (con_X5_isWalkerAt l hTw (o i) (by rw [aR]; exact hok.wk.1)) (tw_t hTw) rfl rfl rfl (Nat.le_of_ble_eq_true rfl) (by omega) (by decide) (by omega) (by omega) ?_ (fun _ _ q _ => False.elim q)
            rw [aR]
            refine zs_ifeq hΓ dX5_fences_98 (tgt := 104) (by decide) (pc' := 101) rfl (fun c_98 => ?_) (fun c_98 => ?_)
            · try have c_98 := iB_eq c_98
              refine zs_iinc hΓ dX5_fences_104 (pc' := 107) rfl (L' := [some (zR _), some (zI _), some (zI _), some (zI _), none, none]) rfl (by unfold inI; omega) (by decide) rfl rfl ?_
              refine zs_goto hΓ dX5_fences_107 (tgt := 45) (by decide) ?_
              exact ih (i + 1) (by omega) (by omega) (fun k q1 q2 => by by_cases e : k = i; rw [e]; exact ⟨c_62, c_74, c_86, c_98⟩; exact hal k q1 (by omega))
            · try have c_98 := iB_ne c_98
              refine zs_bipush hΓ dX5_fences_101 (pc' := 103) rfl ⟨by decide, by decide⟩ ?_
              exact zs_iret hΓ dX5_fences_103 rfl (by omega) (by omega) (⟨_, rfl, fun z => absurd z (hno fun q => q.2.2.2 c_98), fun _ => ⟨rfl, sA2⟩⟩)
  refine zs_aload_n hΓ dX5_fences_0 (pc' := 1) rfl rfl rfl ?_
  refine zs_iconst hΓ dX5_fences_1 (pc' := 2) rfl ⟨by decide, by decide⟩ ?_
  refine zs_puti hΓ dX5_fences_2 (pc' := 5) rfl fX5_1 (fun q hq => (by cases hq; exact Or.inl rfl)) (i9 := 0) rfl trivial (tw_t hTw) (show (0 : Int) ≤ 1 by decide) ?_
  rw [← e1]; have hTw := T.k.tw
  refine zs_aload_n hΓ dX5_fences_5 (pc' := 6) rfl rfl rfl ?_
  refine zs_callVVE hΓ dX5_fences_6 (pc' := 9) rfl kX5_144 (con_X5_taken l hTw) (tw_t hTw) rfl rfl rfl (Nat.le_of_ble_eq_true rfl) (by omega) (by decide) (by omega) (by omega) ?_ (fun _ _ q _ => False.elim q)
  rw [hN, ← hAe]; have hTw := hTA.k.tw
  refine zs_aload_n hΓ dX5_fences_9 (pc' := 10) rfl rfl rfl ?_
  refine zs_iload_n hΓ dX5_fences_10 (pc' := 11) rfl rfl rfl ?_
  refine zs_callVIP hΓ dX5_fences_11 (pc' := 14) rfl kX5_155 (con_X5_isCell l hTw (by rw [aR]; exact hok.hd.rw) c) (tw_t hTw) rfl rfl rfl (Nat.le_of_ble_eq_true rfl) (by omega) (by decide) (by omega) (by omega) ?_ (fun _ _ q _ => False.elim q)
  rw [aR]
  refine zs_ifeq hΓ dX5_fences_14 (tgt := 40) (by decide) (pc' := 17) rfl (fun c_14 => ?_) (fun c_14 => ?_)
  · try have c_14 := iB_eq c_14
    refine zs_bipush hΓ dX5_fences_40 (pc' := 42) rfl ⟨by decide, by decide⟩ ?_
    exact zs_iret hΓ dX5_fences_42 rfl (by omega) (by omega) (⟨_, rfl, fun z => absurd z.1 c_14, fun _ => ⟨rfl, sA2⟩⟩)
  · try have c_14 := iB_ne c_14
    refine zs_iload_n hΓ dX5_fences_17 (pc' := 18) rfl rfl rfl ?_
    refine zs_iconst hΓ dX5_fences_18 (pc' := 19) rfl ⟨by decide, by decide⟩ ?_
    refine zs_bipush hΓ dX5_fences_19 (pc' := 21) rfl ⟨by decide, by decide⟩ ?_
    refine zs_callSIP hΓ dX5_fences_21 (pc' := 24) rfl kX5_132 (con_X5_isIn l _ _ _) rfl rfl (Nat.le_of_ble_eq_true rfl) (by omega) (by decide) (by omega) (by omega) ?_ (fun _ _ q _ => False.elim q)
    refine zs_ifeq hΓ dX5_fences_24 (tgt := 40) (by decide) (pc' := 27) rfl (fun c_24 => ?_) (fun c_24 => ?_)
    · try have c_24 := iB_eq c_24
      refine zs_bipush hΓ dX5_fences_40 (pc' := 42) rfl ⟨by decide, by decide⟩ ?_
      exact zs_iret hΓ dX5_fences_42 rfl (by omega) (by omega) (⟨_, rfl, fun z => absurd z.2.1 c_24, fun _ => ⟨rfl, sA2⟩⟩)
    · try have c_24 := iB_ne c_24
      refine zs_aload_n hΓ dX5_fences_27 (pc' := 28) rfl rfl rfl ?_
      refine zs_geti hΓ dX5_fences_28 (pc' := 31) rfl fX5_18 (i9 := 3) rfl rfl (tw_t hTw) ?_
      refine zs_eqI a3 ?_
      refine zs_iconst hΓ dX5_fences_31 (pc' := 32) rfl ⟨by decide, by decide⟩ ?_
      refine zs_bipush hΓ dX5_fences_32 (pc' := 34) rfl ⟨by decide, by decide⟩ ?_
      refine zs_callSIP hΓ dX5_fences_34 (pc' := 37) rfl kX5_132 (con_X5_isIn l _ _ _) rfl rfl (Nat.le_of_ble_eq_true rfl) (by omega) (by decide) (by omega) (by omega) ?_ (fun _ _ q _ => False.elim q)
      refine zs_ifne hΓ dX5_fences_37 (tgt := 43) (by decide) (pc' := 40) rfl (fun c_37 => ?_) (fun c_37 => ?_)
      · try have c_37 := iB_ne c_37
        refine zs_iconst hΓ dX5_fences_43 (pc' := 44) rfl ⟨by decide, by decide⟩ ?_
        refine zs_istore_n hΓ dX5_fences_44 (pc' := 45) rfl (L' := [some (zR _), some (zI _), some (zI _), some (zI _), none, none]) rfl (by decide) rfl rfl ?_
        exact chk c_14 c_24 c_37 N.toNat 0 (by omega) (by omega) (fun k q1 q2 => by omega)
      · try have c_37 := iB_eq c_37
        refine zs_bipush hΓ dX5_fences_40 (pc' := 42) rfl ⟨by decide, by decide⟩ ?_
        exact zs_iret hΓ dX5_fences_42 rfl (by omega) (by omega) (⟨_, rfl, fun z => absurd z.2.2.1 c_37, fun _ => ⟨rfl, sA2⟩⟩)
