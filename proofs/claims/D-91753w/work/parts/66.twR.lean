/-! THE TWIN, R: ways of one alone -/
set_option maxRecDepth 100000
/-- the cells of a way, behind the first; whether it arrives -/
noncomputable def sWk (R : Int → Int) (b mu : Int) (tx : zTx) (goal : Int) : Nat → Int → Int → Int → List Int × Prop
  | 0, _, _, _ => ([], False)
  | n + 1, here, last, came =>
    let d := sChoose R b mu tx here goal last came (fun _ => 0)
    if d < 0 then ([], False)
    else if sBeside R here d = goal then ([sBeside R here d], True)
    else (sBeside R here d :: (sWk R b mu tx goal n (sBeside R here d) d here).1, (sWk R b mu tx goal n (sBeside R here d) d here).2)
theorem sWk_len (R : Int → Int) (b mu : Int) (tx : zTx) (goal : Int) : ∀ (n : Nat) (here last came : Int), (sWk R b mu tx goal n here last came).1.length ≤ n
  | 0, _, _, _ => Nat.le_refl 0
  | n + 1, here, last, came => by
    unfold sWk
    dsimp only
    split
    · exact Nat.zero_le _
    split
    · exact Nat.succ_le_succ (Nat.zero_le n)
    · exact Nat.succ_le_succ (sWk_len R b mu tx goal n _ _ _)
theorem sWk_r {R : Int → Int} (hw : RW R) (b mu : Int) (tx : zTx) (goal : Int) : ∀ (n : Nat) (here last came : Int), ∀ c ∈ (sWk R b mu tx goal n here last came).1, c = -1 ∨ 0 ≤ c ∧ c < R 0 * R 1
  | 0, _, _, _, c, h => absurd h (by simp [sWk])
  | n + 1, here, last, came, c, h => by
    unfold sWk at h
    dsimp only at h
    split at h
    · exact absurd h (by simp)
    split at h
    · rcases List.mem_cons.mp h with e | e
      · rw [e]; exact sBeside_r hw
      · exact absurd e (by simp)
    · rcases List.mem_cons.mp h with e | e
      · rw [e]; exact sBeside_r hw
      · exact sWk_r hw b mu tx goal n _ _ _ c e
theorem sWk_in {R : Int → Int} (hw : RW R) (b mu : Int) (tx : zTx) {goal : Int} (hg : 0 ≤ goal) : ∀ (n : Nat) (here last came : Int), ∀ c ∈ (sWk R b mu tx goal n here last came).1, 0 ≤ c ∧ c < R 0 * R 1
  | 0, _, _, _, c, h => absurd h (by simp [sWk])
  | n + 1, here, last, came, c, h => by
    unfold sWk at h
    dsimp only at h
    split at h
    · exact absurd h (by simp)
    rename_i q
    have h8 := sChoose_r R b mu tx here goal last came (fun _ => 0) hg
    have h9 : 0 ≤ sBeside R here (sChoose R b mu tx here goal last came (fun _ => 0)) := (h8.resolve_left (by omega)).2
    have h7 := (sBeside_r hw (c := here) (d := sChoose R b mu tx here goal last came (fun _ => 0))).resolve_left (by omega)
    split at h
    · rcases List.mem_cons.mp h with e | e
      · rw [e]; exact h7
      · exact absurd e (by simp)
    · rcases List.mem_cons.mp h with e | e
      · rw [e]; exact h7
      · exact sWk_in hw b mu tx hg n _ _ _ c e
noncomputable def wAns (p : List Int × Prop) : Int := zIf p.2 (p.1.length : Int) (-1)
/-- the way that the twin's path holds -/
def PathR (h : zH) (start : Int) (l : List Int) : Prop := gI h (1, 0) 60 = l.length + 1 ∧ gI h (1, 54) 0 = start ∧ ∀ (k : Nat) (c : Int), l[k]? = some c → gI h (1, 54) ((k : Int) + 1) = c
/-- the way from door to door -/
noncomputable def sWalk (R : Int → Int) (b mu : Int) (hs : Int → zTx) (from' to habit : Int) : List Int × Prop := sWk R b mu (hs habit) (R (3 + to)) 200 (R (3 + from')) (-1) (-1)
theorem con_X5_walk (l : Launch) {h : zH} {B b mu dry : Int} {tx0 : zTx} {hs : Int → zTx} (T : TwD h B b mu dry tx0 hs) {R : Int → Int} (hR : gI h (1, 5) = R) (from' to habit : Int) (hf : 0 ≤ from' ∧ from' < R 2) (ht : 0 ≤ to ∧ to < R 2) (hh : 0 ≤ habit ∧ habit ≤ 5) : Con l mX5_walk 8 0 0 [zR (some (1, 0)), zI from', zI to, zI habit] h (rI fun x h' => x = wAns (sWalk R b mu hs from' to habit) ∧ Same cC h h' ∧ PathR h' (R (3 + from')) (sWalk R b mu hs from' to habit).1) zNo := by
  refine Con.ofS (by decide +kernel) (Nat.le_of_ble_eq_true rfl) fun Γ hΓ hno hwf hav => ?_
  have hΓ : Ctx Γ l cX5_walk RX5 "walk" 6 (Option.some Jvm.ClassFile.FieldType.int) _ _ 8 _ _ := hΓ
  show SS Γ 0 [some (zR _), some (zI _), some (zI _), some (zI _), none, none] [] _ 0 0
  have hok := T.k.ok
  rw [hR] at hok
  have hcs := hok.hd.rw.c
  have hw9 := hok.hd.rw
  have hd1 := (hok.hd.dc from' hf.1 hf.2).1
  have hd2 := (hok.hd.dc to ht.1 ht.2).1
  have hd0 := hok.hd.d
  generalize hp : sWalk R b mu hs from' to habit = p at hΓ
  have mkW : ∀ (h' : zH) (here last came : Int), Same cC h h' → gI h' (1, 0) 34 = here → gI h' (1, 0) 35 = R (3 + to) → gI h' (1, 0) 36 = 1 + habit → gI h' (1, 0) 37 = last → gI h' (1, 0) 38 = came → gI h' (1, 0) 39 = 1 → (0 ≤ here ∧ here < R 0 * R 1) → (-1 ≤ last ∧ last < 8) → Wk h' R b mu (1 + habit) here (R (3 + to)) last came (hs habit) (fun _ => 0) := by
    intro h' here last came hS e34 e35 e36 e37 e38 e39 r1 r2
    have r5 : gI h' (1, 5) = R := (hS.row fun _ => cC_no (by omega)).trans hR
    have T' := T.same (B' := B) (hS.mono fun _ _ z => Or.inl z) (by rw [r5]; exact hok)
    exact Wk.mk T'.k.tw r5 T'.k.b28 T'.k.b29 e34 e35 e36 e37 e38 (Or.inl ⟨e39, rfl⟩) hw9 (by omega) (T'.k.ts habit hh.1 hh.2) r1 hd2 r2 T.k.hb (fun c c1 c2 => by have := hok.cl c c1 (by omega); exact ⟨this.2.2.1, this.2.2.2.1, this.2.2.2.2.2.1⟩) hok.wk.1
  have lp : ∀ (n t : Nat) (pre : List Int) (here last came : Int) (h' : zH), n + t = 200 → pre.length = t → Same cC h h' → gI h' (1, 0) 34 = here → gI h' (1, 0) 35 = R (3 + to) → gI h' (1, 0) 36 = 1 + habit → gI h' (1, 0) 37 = last → gI h' (1, 0) 38 = came → gI h' (1, 0) 39 = 1 → (0 ≤ here ∧ here < R 0 * R 1) → (-1 ≤ last ∧ last < 8) → PathR h' (R (3 + from')) pre → p.1 = pre ++ (sWk R b mu (hs habit) (R (3 + to)) n here last came).1 → (p.2 ↔ (sWk R b mu (hs habit) (R (3 + to)) n here last came).2) → SS Γ 64 [some (zR (some (1, 0))), some (zI from'), some (zI to), some (zI habit), some (zI t), none] [] h' 0 0 := by
    intro n
    induction n with
    | zero =>
      intro t pre here last came h' hnt hpl hS e34 e35 e36 e37 e38 e39 r1 r2 hP hp1 hp2
      have hTw := T.k.tw.same hS
      refine zs_iload hΓ dX5_walk_64 (pc' := 66) rfl rfl ?_
      refine zs_sipush hΓ dX5_walk_66 (pc' := 69) rfl ⟨by decide, by decide⟩ ?_
      refine zs_icmpge hΓ dX5_walk_69 (tgt := 160) (by decide) (pc' := 72) rfl (fun c_69 => ?_) (fun c_69 => False.elim (absurd c_69 (by omega)))
      refine zs_iconst hΓ dX5_walk_160 (pc' := 161) rfl ⟨by decide, by decide⟩ ?_
      exact zs_iret hΓ dX5_walk_161 rfl (by omega) (by omega) (⟨_, rfl, by unfold wAns; rw [zIf_f (fun z => hp2.mp z)], hS, by rw [hp1]; show PathR h' _ (pre ++ []); rw [List.append_nil]; exact hP⟩)
    | succ n ih =>
      intro t pre here last came h' hnt hpl hS e34 e35 e36 e37 e38 e39 r1 r2 hP hp1 hp2
      have W := mkW h' here last came hS e34 e35 e36 e37 e38 e39 r1 r2
      have hTw := W.tw
      have hcr := sChoose_r R b mu (hs habit) here (R (3 + to)) last came (fun _ => 0) hd2.1
      have hbr := sBeside_r hw9 (c := here) (d := sChoose R b mu (hs habit) here (R (3 + to)) last came (fun _ => 0))
      have hu : sWk R b mu (hs habit) (R (3 + to)) (n + 1) here last came = if sChoose R b mu (hs habit) here (R (3 + to)) last came (fun _ => 0) < 0 then ([], False) else if sBeside R here (sChoose R b mu (hs habit) here (R (3 + to)) last came (fun _ => 0)) = R (3 + to) then ([sBeside R here (sChoose R b mu (hs habit) here (R (3 + to)) last came (fun _ => 0))], True) else (sBeside R here (sChoose R b mu (hs habit) here (R (3 + to)) last came (fun _ => 0)) :: (sWk R b mu (hs habit) (R (3 + to)) n (sBeside R here (sChoose R b mu (hs habit) here (R (3 + to)) last came (fun _ => 0))) (sChoose R b mu (hs habit) here (R (3 + to)) last came (fun _ => 0)) here).1, (sWk R b mu (hs habit) (R (3 + to)) n (sBeside R here (sChoose R b mu (hs habit) here (R (3 + to)) last came (fun _ => 0))) (sChoose R b mu (hs habit) here (R (3 + to)) last came (fun _ => 0)) here).2) := rfl
      rw [hu] at hp1 hp2
      generalize hdd : sChoose R b mu (hs habit) here (R (3 + to)) last came (fun _ => 0) = dd at hcr hbr hp1 hp2
      generalize hgo : sBeside R here dd = nx at hcr hbr hp1 hp2
      have hlen : (t : Int) < 200 := by omega
      have hP0 := hP.1
      refine zs_iload hΓ dX5_walk_64 (pc' := 66) rfl rfl ?_
      refine zs_sipush hΓ dX5_walk_66 (pc' := 69) rfl ⟨by decide, by decide⟩ ?_
      refine zs_icmpge hΓ dX5_walk_69 (tgt := 160) (by decide) (pc' := 72) rfl (fun c_69 => False.elim (absurd c_69 (by omega))) (fun c_69 => ?_)
      refine zs_aload_n hΓ dX5_walk_72 (pc' := 73) rfl rfl rfl ?_
      refine zs_callVI hΓ dX5_walk_73 (pc' := 76) rfl kX5_414 (con_X5_choose l W) (tw_t hTw) rfl rfl rfl (Nat.le_of_ble_eq_true rfl) (by omega) (by decide) (by omega) (by omega) (fun x_73 h_73 q_73 k_73 => ?_) (fun _ _ q _ => False.elim q)
      obtain ⟨rfl, q9⟩ := q_73
      rw [hdd]
      have W2 := W.same q9
      have hTw := W2.tw
      have hS2 : Same cC h h_73 := hS.tr (q9.mono fun a j z => by rw [z]; exact cC_in (by omega))
      have hP2 : PathR h_73 (R (3 + from')) pre := ⟨(q9.2.2 _ _ (n1 (by decide))).trans hP.1, (q9.2.2 _ _ (n1 (by decide))).trans hP.2.1, fun k c hk => (q9.2.2 _ _ (n1 (by decide))).trans (hP.2.2 k c hk)⟩
      have f39 : gI h_73 (1, 0) 39 = 1 := (q9.2.2 _ _ (n1 (by decide))).trans e39
      refine zs_istore hΓ dX5_walk_76 (pc' := 78) rfl (L' := [some (zR _), some (zI _), some (zI _), some (zI _), some (zI _), some (zI _)]) (by decide) rfl rfl ?_
      refine zs_iload hΓ dX5_walk_78 (pc' := 80) rfl rfl ?_
      refine zs_ifge hΓ dX5_walk_80 (tgt := 85) (by decide) (pc' := 83) rfl (fun c_80 => ?_) (fun c_80 => ?_)
      · have g0 : ¬ dd < 0 := by omega
        have hcr := hcr.resolve_left (by omega)
        have hbr := hbr.resolve_left (by omega)
        rw [if_neg g0] at hp1 hp2
        refine zs_aload_n hΓ dX5_walk_85 (pc' := 86) rfl rfl rfl ?_
        refine zs_iload hΓ dX5_walk_86 (pc' := 88) rfl rfl ?_
        refine zs_puti hΓ dX5_walk_88 (pc' := 91) rfl fX5_369 (fun q hq => (by cases hq; exact Or.inl rfl)) (i9 := 37) rfl trivial (tw_t hTw) (show (0 : Int) ≤ 1 by decide) ?_
        refine zs_aload_n hΓ dX5_walk_91 (pc' := 92) rfl rfl rfl ?_
        refine zs_aload_n hΓ dX5_walk_92 (pc' := 93) rfl rfl rfl ?_
        refine zs_geti hΓ dX5_walk_93 (pc' := 96) rfl fX5_359 (i9 := 34) rfl rfl (tw_t hTw) ?_
        refine zs_eqI (y := here) (by rw [gI_setI, if_neg (by decide)]; exact W2.e34) ?_
        refine zs_puti hΓ dX5_walk_96 (pc' := 99) rfl fX5_372 (fun q hq => (by cases hq; exact Or.inl rfl)) (i9 := 38) rfl trivial (tw_t hTw) (show (0 : Int) ≤ 1 by decide) ?_
        refine zs_aload_n hΓ dX5_walk_99 (pc' := 100) rfl rfl rfl ?_
        refine zs_aload_n hΓ dX5_walk_100 (pc' := 101) rfl rfl rfl ?_
        refine zs_aload_n hΓ dX5_walk_101 (pc' := 102) rfl rfl rfl ?_
        refine zs_geti hΓ dX5_walk_102 (pc' := 105) rfl fX5_359 (i9 := 34) rfl rfl (tw_t hTw) ?_
        refine zs_eqI (y := here) (by rw [gI_setI, if_neg (by decide), gI_setI, if_neg (by decide)]; exact W2.e34) ?_
        refine zs_iload hΓ dX5_walk_105 (pc' := 107) rfl rfl ?_
        refine zs_callVIP hΓ dX5_walk_107 (pc' := 110) rfl kX5_380 (con_X5_beside l (by exact hTw) (by rw [gI_ot _ _ _ (n1 (by decide)), gI_ot _ _ _ (n1 (by decide)), W2.r]; exact hw9) here dd (by rw [gI_ot _ _ _ (n1 (by decide)), gI_ot _ _ _ (n1 (by decide)), W2.r]; exact r1) hcr.1) (tw_t hTw) rfl rfl rfl (Nat.le_of_ble_eq_true rfl) (by omega) (by decide) (by omega) (by omega) ?_ (fun _ _ q _ => False.elim q)
        refine zs_eqI (y := nx) (by rw [gI_ot _ _ _ (n1 (by decide)), gI_ot _ _ _ (n1 (by decide)), W2.r]; exact hgo) ?_
        refine zs_puti hΓ dX5_walk_110 (pc' := 113) rfl fX5_359 (fun q hq => (by cases hq; exact Or.inl rfl)) (i9 := 34) rfl trivial (tw_t hTw) (show (0 : Int) ≤ 1 by decide) ?_
        refine zs_nm (fun h3 e3 => ?_)
        have hTw : TwT h3 := by rw [e3]; exact hTw
        have hS3 : Same cC h h3 := by rw [e3]; exact ((hS2.set (cC_in (by decide))).set (cC_in (by decide))).set (cC_in (by decide))
        have f34 : gI h3 (1, 0) 34 = nx := by rw [e3, gI_setI, if_pos ⟨rfl, rfl⟩]
        have f38 : gI h3 (1, 0) 38 = here := by rw [e3, gI_setI, if_neg (by decide), gI_setI, if_pos ⟨rfl, rfl⟩]
        have f37 : gI h3 (1, 0) 37 = dd := by rw [e3, gI_setI, if_neg (by decide), gI_setI, if_neg (by decide), gI_setI, if_pos ⟨rfl, rfl⟩]
        have f0 : ∀ j, j ≠ 34 → j ≠ 37 → j ≠ 38 → gI h3 (1, 0) j = gI h_73 (1, 0) j := fun j j1 j2 j3 => by rw [e3, gI_setI, if_neg (fun z => j1 z.2), gI_setI, if_neg (fun z => j3 z.2), gI_setI, if_neg (fun z => j2 z.2)]
        have f54 : ∀ j, gI h3 (1, 54) j = gI h_73 (1, 54) j := fun j => by rw [e3, gI_ot _ _ _ (n1 (by decide)), gI_ot _ _ _ (n1 (by decide)), gI_ot _ _ _ (n1 (by decide))]
        have f60 : gI h3 (1, 0) 60 = (t : Int) + 1 := by rw [f0 60 (by decide) (by decide) (by decide), hP2.1, hpl]
        refine zs_aload_n hΓ dX5_walk_113 (pc' := 114) rfl rfl rfl ?_
        refine zs_getrE hΓ dX5_walk_114 (pc' := 117) rfl fX5_110 (i9 := 54) rfl rfl (tw_t hTw) (tw_p54 hTw) ?_
        refine zs_aload_n hΓ dX5_walk_117 (pc' := 118) rfl rfl rfl ?_
        refine zs_geti hΓ dX5_walk_118 (pc' := 121) rfl fX5_494 (i9 := 60) rfl rfl (tw_t hTw) ?_
        refine zs_eqI f60 ?_
        refine zs_aload_n hΓ dX5_walk_121 (pc' := 122) rfl rfl rfl ?_
        refine zs_geti hΓ dX5_walk_122 (pc' := 125) rfl fX5_359 (i9 := 34) rfl rfl (tw_t hTw) ?_
        refine zs_eqI f34 ?_
        refine zs_iast hΓ dX5_walk_125 (pc' := 126) rfl (tw_a54 hTw) (show (0 : Int) ≤ 1 by decide) (by omega) (by omega) ?_
        refine zs_aload_n hΓ dX5_walk_126 (pc' := 127) rfl rfl rfl ?_
        refine zs_dup hΓ dX5_walk_127 (pc' := 128) rfl  ?_
        refine zs_geti hΓ dX5_walk_128 (pc' := 131) rfl fX5_494 (i9 := 60) rfl rfl (tw_t hTw) ?_
        refine zs_eqI (y := (t : Int) + 1) (by rw [gI_ot _ _ _ (n1 (by decide))]; exact f60) ?_
        refine zs_iconst hΓ dX5_walk_131 (pc' := 132) rfl ⟨by decide, by decide⟩ ?_
        refine zs_iadd hΓ dX5_walk_132 (pc' := 133) rfl (by unfold inI; omega) ?_
        refine zs_puti hΓ dX5_walk_133 (pc' := 136) rfl fX5_494 (fun q hq => (by cases hq; exact Or.inl rfl)) (i9 := 60) rfl trivial (tw_t hTw) (show (0 : Int) ≤ 1 by decide) ?_
        refine zs_nm (fun h4 e4 => ?_)
        have hTw : TwT h4 := by rw [e4]; exact hTw
        have hS4 : Same cC h h4 := by rw [e4]; exact (hS3.set (cC_in (by omega))).set (cC_in (by decide))
        have g0 : ∀ j, j ≠ 60 → gI h4 (1, 0) j = gI h3 (1, 0) j := fun j j1 => by rw [e4, gI_setI, if_neg (fun z => j1 z.2), gI_ot _ _ _ (n1 (by decide))]
        have hP4 : PathR h4 (R (3 + from')) (pre ++ [nx]) := by
          refine ⟨?_, ?_, fun k c hk => ?_⟩
          · rw [e4, gI_setI, if_pos ⟨rfl, rfl⟩, List.length_append, List.length_singleton, hpl]; omega
          · rw [e4, gI_ot _ _ _ (n1 (by decide)), gI_setI, if_neg (by omega), f54]; exact hP2.2.1
          · rw [e4, gI_ot _ _ _ (n1 (by decide)), gI_setI]
            by_cases hkt : k = t
            · rw [if_pos ⟨rfl, by omega⟩]
              rw [List.getElem?_append_right (by omega), hkt, hpl, Nat.sub_self] at hk
              exact Option.some.inj hk
            · have hkl : k < (pre ++ [nx]).length := (List.getElem?_eq_some_iff.mp hk).1
              rw [List.length_append, List.length_singleton] at hkl
              rw [if_neg (by omega), f54]
              rw [List.getElem?_append_left (by omega)] at hk
              exact hP2.2.2 k c hk
        refine zs_aload_n hΓ dX5_walk_136 (pc' := 137) rfl rfl rfl ?_
        refine zs_geti hΓ dX5_walk_137 (pc' := 140) rfl fX5_359 (i9 := 34) rfl rfl (tw_t hTw) ?_
        refine zs_eqI ((g0 34 (by decide)).trans f34) ?_
        refine zs_aload_n hΓ dX5_walk_140 (pc' := 141) rfl rfl rfl ?_
        refine zs_geti hΓ dX5_walk_141 (pc' := 144) rfl fX5_383 (i9 := 35) rfl rfl (tw_t hTw) ?_
        refine zs_eqI (y := R (3 + to)) ((g0 35 (by decide)).trans ((f0 35 (by decide) (by decide) (by decide)).trans W2.e35)) ?_
        refine zs_icmpne hΓ dX5_walk_144 (tgt := 154) (by decide) (pc' := 147) rfl (fun c_144 => ?_) (fun c_144 => ?_)
        · refine zs_iinc hΓ dX5_walk_154 (pc' := 157) rfl (L' := [some (zR _), some (zI _), some (zI _), some (zI _), some (zI _), some (zI _)]) rfl (by unfold inI; omega) (by decide) rfl rfl ?_
          refine zs_goto hΓ dX5_walk_157 (tgt := 64) (by decide) ?_
          refine zs_drop 5 (L' := [some (zR _), some (zI _), some (zI _), some (zI _), some (zI _), none]) rfl ?_
          have h9 := ih (t + 1) (pre ++ [nx]) nx dd here h4 (by omega) (by rw [List.length_append, List.length_singleton, hpl]) hS4 ((g0 34 (by decide)).trans f34) ((g0 35 (by decide)).trans ((f0 35 (by decide) (by decide) (by decide)).trans W2.e35)) ((g0 36 (by decide)).trans ((f0 36 (by decide) (by decide) (by decide)).trans W2.e36)) ((g0 37 (by decide)).trans f37) ((g0 38 (by decide)).trans f38) ((g0 39 (by decide)).trans ((f0 39 (by decide) (by decide) (by decide)).trans f39)) (by omega) (by omega) hP4 (by rw [hp1, if_neg c_144, List.append_assoc]; rfl) (by rw [hp2, if_neg c_144])
          rw [show ((t + 1 : Nat) : Int) = (t : Int) + 1 by omega] at h9
          exact h9
        · refine zs_aload_n hΓ dX5_walk_147 (pc' := 148) rfl rfl rfl ?_
          refine zs_geti hΓ dX5_walk_148 (pc' := 151) rfl fX5_494 (i9 := 60) rfl rfl (tw_t hTw) ?_
          refine zs_eqI (y := (t : Int) + 2) (by rw [hP4.1, List.length_append, List.length_singleton, hpl]; omega) ?_
          refine zs_iconst hΓ dX5_walk_151 (pc' := 152) rfl ⟨by decide, by decide⟩ ?_
          refine zs_isub hΓ dX5_walk_152 (pc' := 153) rfl (by unfold inI; omega) ?_
          have g1 : p.1 = pre ++ [nx] := by rw [hp1, if_pos c_144]
          have g2 : p.2 := hp2.mpr (by rw [if_pos c_144]; trivial)
          exact zs_iret hΓ dX5_walk_153 rfl (by omega) (by omega) (⟨_, rfl, by unfold wAns; rw [zIf_t g2, g1, List.length_append, List.length_singleton, hpl]; omega, hS4, by rw [g1]; exact hP4⟩)
      · refine zs_iconst hΓ dX5_walk_83 (pc' := 84) rfl ⟨by decide, by decide⟩ ?_
        have g1 : p.1 = pre := by rw [hp1, if_pos (by omega)]; exact List.append_nil pre
        have g2 : ¬ p.2 := fun z => by have := hp2.mp z; rw [if_pos (by omega)] at this; exact this
        exact zs_iret hΓ dX5_walk_84 rfl (by omega) (by omega) (⟨_, rfl, by unfold wAns; rw [zIf_f g2], hS2, by rw [g1]; exact hP2⟩)
  have hTw := T.k.tw
  refine zs_aload_n hΓ dX5_walk_0 (pc' := 1) rfl rfl rfl ?_
  refine zs_aload_n hΓ dX5_walk_1 (pc' := 2) rfl rfl rfl ?_
  refine zs_getrE hΓ dX5_walk_2 (pc' := 5) rfl fX5_30 (i9 := 5) rfl rfl (tw_t hTw) (tw_p5 hTw) ?_
  refine zs_iconst hΓ dX5_walk_5 (pc' := 6) rfl ⟨by decide, by decide⟩ ?_
  refine zs_iload_n hΓ dX5_walk_6 (pc' := 7) rfl rfl rfl ?_
  refine zs_iadd hΓ dX5_walk_7 (pc' := 8) rfl (by unfold inI; omega) ?_
  refine zs_iald hΓ dX5_walk_8 (pc' := 9) rfl (tw_a5 hTw) (by omega) (by omega) ?_
  refine zs_eqI (congrFun hR _) ?_
  refine zs_puti hΓ dX5_walk_9 (pc' := 12) rfl fX5_359 (fun q hq => (by cases hq; exact Or.inl rfl)) (i9 := 34) rfl trivial (tw_t hTw) (show (0 : Int) ≤ 1 by decide) ?_
  refine zs_aload_n hΓ dX5_walk_12 (pc' := 13) rfl rfl rfl ?_
  refine zs_aload_n hΓ dX5_walk_13 (pc' := 14) rfl rfl rfl ?_
  refine zs_getrE hΓ dX5_walk_14 (pc' := 17) rfl fX5_30 (i9 := 5) rfl rfl (tw_t hTw) (tw_p5 hTw) ?_
  refine zs_iconst hΓ dX5_walk_17 (pc' := 18) rfl ⟨by decide, by decide⟩ ?_
  refine zs_iload_n hΓ dX5_walk_18 (pc' := 19) rfl rfl rfl ?_
  refine zs_iadd hΓ dX5_walk_19 (pc' := 20) rfl (by unfold inI; omega) ?_
  refine zs_iald hΓ dX5_walk_20 (pc' := 21) rfl (tw_a5 hTw) (by omega) (by omega) ?_
  refine zs_eqI (y := R (3 + to)) (by rw [gI_ot _ _ _ (n1 (by decide))]; exact congrFun hR _) ?_
  refine zs_puti hΓ dX5_walk_21 (pc' := 24) rfl fX5_383 (fun q hq => (by cases hq; exact Or.inl rfl)) (i9 := 35) rfl trivial (tw_t hTw) (show (0 : Int) ≤ 1 by decide) ?_
  refine zs_aload_n hΓ dX5_walk_24 (pc' := 25) rfl rfl rfl ?_
  refine zs_iconst hΓ dX5_walk_25 (pc' := 26) rfl ⟨by decide, by decide⟩ ?_
  refine zs_iload_n hΓ dX5_walk_26 (pc' := 27) rfl rfl rfl ?_
  refine zs_iadd hΓ dX5_walk_27 (pc' := 28) rfl (by unfold inI; omega) ?_
  refine zs_puti hΓ dX5_walk_28 (pc' := 31) rfl fX5_378 (fun q hq => (by cases hq; exact Or.inl rfl)) (i9 := 36) rfl trivial (tw_t hTw) (show (0 : Int) ≤ 1 by decide) ?_
  refine zs_aload_n hΓ dX5_walk_31 (pc' := 32) rfl rfl rfl ?_
  refine zs_iconst hΓ dX5_walk_32 (pc' := 33) rfl ⟨by decide, by decide⟩ ?_
  refine zs_puti hΓ dX5_walk_33 (pc' := 36) rfl fX5_369 (fun q hq => (by cases hq; exact Or.inl rfl)) (i9 := 37) rfl trivial (tw_t hTw) (show (0 : Int) ≤ 1 by decide) ?_
  refine zs_aload_n hΓ dX5_walk_36 (pc' := 37) rfl rfl rfl ?_
  refine zs_iconst hΓ dX5_walk_37 (pc' := 38) rfl ⟨by decide, by decide⟩ ?_
  refine zs_puti hΓ dX5_walk_38 (pc' := 41) rfl fX5_372 (fun q hq => (by cases hq; exact Or.inl rfl)) (i9 := 38) rfl trivial (tw_t hTw) (show (0 : Int) ≤ 1 by decide) ?_
  refine zs_aload_n hΓ dX5_walk_41 (pc' := 42) rfl rfl rfl ?_
  refine zs_iconst hΓ dX5_walk_42 (pc' := 43) rfl ⟨by decide, by decide⟩ ?_
  refine zs_puti hΓ dX5_walk_43 (pc' := 46) rfl fX5_362 (fun q hq => (by cases hq; exact Or.inl rfl)) (i9 := 39) rfl (by show _ ∨ _; omega) (tw_t hTw) (show (0 : Int) ≤ 1 by decide) ?_
  refine zs_aload_n hΓ dX5_walk_46 (pc' := 47) rfl rfl rfl ?_
  refine zs_iconst hΓ dX5_walk_47 (pc' := 48) rfl ⟨by decide, by decide⟩ ?_
  refine zs_puti hΓ dX5_walk_48 (pc' := 51) rfl fX5_494 (fun q hq => (by cases hq; exact Or.inl rfl)) (i9 := 60) rfl trivial (tw_t hTw) (show (0 : Int) ≤ 1 by decide) ?_
  refine zs_aload_n hΓ dX5_walk_51 (pc' := 52) rfl rfl rfl ?_
  refine zs_getrE hΓ dX5_walk_52 (pc' := 55) rfl fX5_110 (i9 := 54) rfl rfl (tw_t hTw) (tw_p54 hTw) ?_
  refine zs_nm (fun h3 e3 => ?_)
  have hTw : TwT h3 := by rw [e3]; exact hTw
  have hS3 : Same cC h h3 := by rw [e3]; exact (((((((Same.rf _ _).set (cC_in (by decide))).set (cC_in (by decide))).set (cC_in (by decide))).set (cC_in (by decide))).set (cC_in (by decide))).set (cC_in (by decide))).set (cC_in (by decide))
  have f34 : gI h3 (1, 0) 34 = R (3 + from') := by rw [e3]; simp [gI_setI]
  have f35 : gI h3 (1, 0) 35 = R (3 + to) := by rw [e3]; simp [gI_setI]
  have f36 : gI h3 (1, 0) 36 = 1 + habit := by rw [e3]; simp [gI_setI]
  have f37 : gI h3 (1, 0) 37 = -1 := by rw [e3]; simp [gI_setI]
  have f38 : gI h3 (1, 0) 38 = -1 := by rw [e3]; simp [gI_setI]
  have f39 : gI h3 (1, 0) 39 = 1 := by rw [e3]; simp [gI_setI]
  have f60 : gI h3 (1, 0) 60 = 1 := by rw [e3]; simp [gI_setI]
  refine zs_iconst hΓ dX5_walk_55 (pc' := 56) rfl ⟨by decide, by decide⟩ ?_
  refine zs_aload_n hΓ dX5_walk_56 (pc' := 57) rfl rfl rfl ?_
  refine zs_geti hΓ dX5_walk_57 (pc' := 60) rfl fX5_359 (i9 := 34) rfl rfl (tw_t hTw) ?_
  refine zs_eqI f34 ?_
  refine zs_iast hΓ dX5_walk_60 (pc' := 61) rfl (tw_a54 hTw) (show (0 : Int) ≤ 1 by decide) (by omega) (by omega) ?_
  refine zs_iconst hΓ dX5_walk_61 (pc' := 62) rfl ⟨by decide, by decide⟩ ?_
  refine zs_istore hΓ dX5_walk_62 (pc' := 64) rfl (L' := [some (zR _), some (zI _), some (zI _), some (zI _), some (zI _), none]) (by decide) rfl rfl ?_
  exact lp 200 0 [] (R (3 + from')) (-1) (-1) _ (by omega) rfl (hS3.set (cC_in (by decide))) (by rw [gI_ot _ _ _ (n1 (by decide))]; exact f34) (by rw [gI_ot _ _ _ (n1 (by decide))]; exact f35) (by rw [gI_ot _ _ _ (n1 (by decide))]; exact f36) (by rw [gI_ot _ _ _ (n1 (by decide))]; exact f37) (by rw [gI_ot _ _ _ (n1 (by decide))]; exact f38) (by rw [gI_ot _ _ _ (n1 (by decide))]; exact f39) hd1 (by decide) ⟨by rw [gI_ot _ _ _ (n1 (by decide))]; exact f60, by rw [gI_setI, if_pos ⟨rfl, rfl⟩], fun k c hk => by rw [List.getElem?_nil] at hk; cases hk⟩ (by rw [← hp]; rfl) (by rw [← hp]; exact Iff.rfl)
abbrev okWay (R : Int → Int) (a b hb : Int) : Prop := sIsDoor R a ∧ sIsDoor R b ∧ a ≠ b ∧ 0 ≤ hb ∧ hb ≤ 5
theorem con_X5_isWay (l : Launch) {h : zH} (hTw : TwT h) {R : Int → Int} (hR : gI h (1, 5) = R) (hd : 0 ≤ R 2 ∧ R 2 ≤ 9) (a b hb : Int) : Con l mX5_isWay 3 0 0 [zR (some (1, 0)), zI a, zI b, zI hb] h (rI fun x h' => x = iB (okWay R a b hb) ∧ h' = h) zNo := by
  refine Con.ofS (by decide +kernel) (Nat.le_of_ble_eq_true rfl) fun Γ hΓ hno hwf hav => ?_
  have hΓ : Ctx Γ l cX5_isWay RX5 "isWay" 4 (Option.some Jvm.ClassFile.FieldType.boolean) _ _ 3 _ _ := hΓ
  show SS Γ 0 [some (zR _), some (zI _), some (zI _), some (zI _)] [] _ 0 0
  refine zs_aload_n hΓ dX5_isWay_0 (pc' := 1) rfl rfl rfl ?_
  refine zs_iload_n hΓ dX5_isWay_1 (pc' := 2) rfl rfl rfl ?_
  refine zs_callVIP hΓ dX5_isWay_2 (pc' := 5) rfl kX5_340 (con_X5_isDoor l hTw a (by rw [hR]; exact hd)) (tw_t hTw) rfl rfl rfl (Nat.le_of_ble_eq_true rfl) (by omega) (by decide) (by omega) (by omega) ?_ (fun _ _ q _ => False.elim q)
  rw [hR]
  refine zs_ifeq hΓ dX5_isWay_5 (tgt := 34) (by decide) (pc' := 8) rfl (fun c_5 => ?_) (fun c_5 => ?_)
  · try have c_5 := iB_eq c_5
    refine zs_iconst hΓ dX5_isWay_34 (pc' := 35) rfl ⟨by decide, by decide⟩ ?_
    exact zs_zret hΓ dX5_isWay_35 rfl (by first | omega | exact iB_01 _) (by omega) (by omega) (⟨_, rfl, iB_f (fun z => c_5 z.1), rfl⟩)
  · try have c_5 := iB_ne c_5
    refine zs_aload_n hΓ dX5_isWay_8 (pc' := 9) rfl rfl rfl ?_
    refine zs_iload_n hΓ dX5_isWay_9 (pc' := 10) rfl rfl rfl ?_
    refine zs_callVIP hΓ dX5_isWay_10 (pc' := 13) rfl kX5_340 (con_X5_isDoor l hTw b (by rw [hR]; exact hd)) (tw_t hTw) rfl rfl rfl (Nat.le_of_ble_eq_true rfl) (by omega) (by decide) (by omega) (by omega) ?_ (fun _ _ q _ => False.elim q)
    rw [hR]
    refine zs_ifeq hΓ dX5_isWay_13 (tgt := 34) (by decide) (pc' := 16) rfl (fun c_13 => ?_) (fun c_13 => ?_)
    · try have c_13 := iB_eq c_13
      refine zs_iconst hΓ dX5_isWay_34 (pc' := 35) rfl ⟨by decide, by decide⟩ ?_
      exact zs_zret hΓ dX5_isWay_35 rfl (by first | omega | exact iB_01 _) (by omega) (by omega) (⟨_, rfl, iB_f (fun z => c_13 z.2.1), rfl⟩)
    · try have c_13 := iB_ne c_13
      refine zs_iload_n hΓ dX5_isWay_16 (pc' := 17) rfl rfl rfl ?_
      refine zs_iload_n hΓ dX5_isWay_17 (pc' := 18) rfl rfl rfl ?_
      refine zs_icmpeq hΓ dX5_isWay_18 (tgt := 34) (by decide) (pc' := 21) rfl (fun c_18 => ?_) (fun c_18 => ?_)
      · refine zs_iconst hΓ dX5_isWay_34 (pc' := 35) rfl ⟨by decide, by decide⟩ ?_
        exact zs_zret hΓ dX5_isWay_35 rfl (by first | omega | exact iB_01 _) (by omega) (by omega) (⟨_, rfl, iB_f (fun z => z.2.2.1 c_18), rfl⟩)
      · refine zs_iload_n hΓ dX5_isWay_21 (pc' := 22) rfl rfl rfl ?_
        refine zs_iconst hΓ dX5_isWay_22 (pc' := 23) rfl ⟨by decide, by decide⟩ ?_
        refine zs_iconst hΓ dX5_isWay_23 (pc' := 24) rfl ⟨by decide, by decide⟩ ?_
        refine zs_callSIP hΓ dX5_isWay_24 (pc' := 27) rfl kX5_132 (con_X5_isIn l _ _ _) rfl rfl (Nat.le_of_ble_eq_true rfl) (by omega) (by decide) (by omega) (by omega) ?_ (fun _ _ q _ => False.elim q)
        refine zs_ifeq hΓ dX5_isWay_27 (tgt := 34) (by decide) (pc' := 30) rfl (fun c_27 => ?_) (fun c_27 => ?_)
        · try have c_27 := iB_eq c_27
          refine zs_iconst hΓ dX5_isWay_34 (pc' := 35) rfl ⟨by decide, by decide⟩ ?_
          exact zs_zret hΓ dX5_isWay_35 rfl (by first | omega | exact iB_01 _) (by omega) (by omega) (⟨_, rfl, iB_f (fun z => c_27 z.2.2.2), rfl⟩)
        · try have c_27 := iB_ne c_27
          refine zs_iconst hΓ dX5_isWay_30 (pc' := 31) rfl ⟨by decide, by decide⟩ ?_
          refine zs_goto hΓ dX5_isWay_31 (tgt := 35) (by decide) ?_
          exact zs_zret hΓ dX5_isWay_35 rfl (by first | omega | exact iB_01 _) (by omega) (by omega) (⟨_, rfl, iB_t ⟨c_5, c_13, c_18, c_27⟩, rfl⟩)
/-- the way kept -/
def PathK (h : zH) (start : Int) (l : List Int) : Prop := gI h (1, 0) 61 = l.length + 1 ∧ gI h (1, 55) 0 = start ∧ ∀ (k : Nat) (c : Int), l[k]? = some c → gI h (1, 55) ((k : Int) + 1) = c
theorem con_X5_way (l : Launch) {h h1 : zH} (e1 : h1 = setI h (1, 0) 0 0) {B b mu dry : Int} {tx0 : zTx} {hs : Int → zTx} (T : TwD h1 B b mu dry tx0 hs) {R : Int → Int} (hR : gI h1 (1, 5) = R) (from' to habit : Int) : Con l mX5_way 9 0 0 [zR (some (1, 0)), zI from', zI to, zI habit] h (rI fun x h' => (okWay R from' to habit → x = wAns (sWalk R b mu hs from' to habit) ∧ Same (fun a j => cC a j ∨ a = (1, 55) ∨ (a = (1, 0) ∧ j = 61)) h1 h' ∧ PathK h' (R (3 + from')) (sWalk R b mu hs from' to habit).1) ∧ (¬ okWay R from' to habit → x = -2 ∧ h' = h1)) zNo := by
  refine Con.ofS (by decide +kernel) (Nat.le_of_ble_eq_true rfl) fun Γ hΓ hno hwf hav => ?_
  have hΓ : Ctx Γ l cX5_way RX5 "way" 6 (Option.some Jvm.ClassFile.FieldType.int) _ _ 9 _ _ := hΓ
  show SS Γ 0 [some (zR _), some (zI _), some (zI _), some (zI _), none, none] [] _ 0 0
  have hTw := T.k.tw.thr e1
  have hok := T.k.ok
  rw [hR] at hok
  have hlen := sWk_len R b mu (hs habit) (R (3 + to)) 200 (R (3 + from')) (-1) (-1)
  generalize hp : sWalk R b mu hs from' to habit = p at hΓ
  have hlen : p.1.length ≤ 200 := by rw [← hp]; exact hlen
  have lp : okWay R from' to habit → ∀ (m i : Nat) (h' : zH), i + m = p.1.length + 1 → Same (fun a j => cC a j ∨ a = (1, 55) ∨ (a = (1, 0) ∧ j = 61)) h1 h' → PathR h' (R (3 + from')) p.1 → gI h' (1, 0) 61 = p.1.length + 1 → (∀ j : Nat, j < i → gI h' (1, 55) j = gI h' (1, 54) j) → SS Γ 38 [some (zR (some (1, 0))), some (zI from'), some (zI to), some (zI habit), some (zI (wAns p)), some (zI i)] [] h' 0 0 := by
    intro hk m
    induction m with
    | zero =>
      intro i h' hi hS hP h61 hr
      have hTw := T.k.tw.same hS
      refine zs_iload hΓ dX5_way_38 (pc' := 40) rfl rfl ?_
      refine zs_aload_n hΓ dX5_way_40 (pc' := 41) rfl rfl rfl ?_
      refine zs_geti hΓ dX5_way_41 (pc' := 44) rfl fX5_494 (i9 := 60) rfl rfl (tw_t hTw) ?_
      refine zs_eqI hP.1 ?_
      refine zs_icmpge hΓ dX5_way_44 (tgt := 67) (by decide) (pc' := 47) rfl (fun c_44 => ?_) (fun c_44 => False.elim (absurd c_44 (by omega)))
      refine zs_iload hΓ dX5_way_67 (pc' := 69) rfl rfl ?_
      exact zs_iret hΓ dX5_way_69 rfl (by omega) (by omega) (⟨_, rfl, fun _ => ⟨rfl, hS, h61, (hr 0 (by omega)).trans hP.2.1, fun k c hc => by
        have hkl := (List.getElem?_eq_some_iff.mp hc).1
        have := hr (k + 1) (by omega)
        rw [show ((k + 1 : Nat) : Int) = (k : Int) + 1 by omega] at this
        exact this.trans (hP.2.2 k c hc)⟩, fun z => absurd hk z⟩)
    | succ m ih =>
      intro i h' hi hS hP h61 hr
      have hTw := T.k.tw.same hS
      refine zs_iload hΓ dX5_way_38 (pc' := 40) rfl rfl ?_
      refine zs_aload_n hΓ dX5_way_40 (pc' := 41) rfl rfl rfl ?_
      refine zs_geti hΓ dX5_way_41 (pc' := 44) rfl fX5_494 (i9 := 60) rfl rfl (tw_t hTw) ?_
      refine zs_eqI hP.1 ?_
      refine zs_icmpge hΓ dX5_way_44 (tgt := 67) (by decide) (pc' := 47) rfl (fun c_44 => False.elim (absurd c_44 (by omega))) (fun c_44 => ?_)
      refine zs_aload_n hΓ dX5_way_47 (pc' := 48) rfl rfl rfl ?_
      refine zs_getrE hΓ dX5_way_48 (pc' := 51) rfl fX5_113 (i9 := 55) rfl rfl (tw_t hTw) (tw_p55 hTw) ?_
      refine zs_iload hΓ dX5_way_51 (pc' := 53) rfl rfl ?_
      refine zs_aload_n hΓ dX5_way_53 (pc' := 54) rfl rfl rfl ?_
      refine zs_getrE hΓ dX5_way_54 (pc' := 57) rfl fX5_110 (i9 := 54) rfl rfl (tw_t hTw) (tw_p54 hTw) ?_
      refine zs_iload hΓ dX5_way_57 (pc' := 59) rfl rfl ?_
      refine zs_iald hΓ dX5_way_59 (pc' := 60) rfl (tw_a54 hTw) (by omega) (by omega) ?_
      refine zs_iast hΓ dX5_way_60 (pc' := 61) rfl (tw_a55 hTw) (show (0 : Int) ≤ 1 by decide) (by omega) (by omega) ?_
      refine zs_iinc hΓ dX5_way_61 (pc' := 64) rfl (L' := [some (zR _), some (zI _), some (zI _), some (zI _), some (zI _), some (zI _)]) rfl (by unfold inI; omega) (by decide) rfl rfl ?_
      refine zs_goto hΓ dX5_way_64 (tgt := 38) (by decide) ?_
      have h9 := ih (i + 1) (setI h' (1, 55) i (gI h' (1, 54) i)) (by omega) (hS.set (Or.inr (Or.inl rfl))) ⟨by rw [gI_ot _ _ _ (n1 (by decide))]; exact hP.1, by rw [gI_ot _ _ _ (n1 (by decide))]; exact hP.2.1, fun k c hc => by rw [gI_ot _ _ _ (n1 (by decide))]; exact hP.2.2 k c hc⟩ (by rw [gI_ot _ _ _ (n1 (by decide))]; exact h61) (fun j hj => by rw [gI_setI, gI_ot _ _ _ (n1 (by decide))]; by_cases e : j = i; rw [if_pos ⟨rfl, by omega⟩, e]; rw [if_neg (fun z => by have := z.2; omega)]; exact hr j (by omega))
      rw [show ((i + 1 : Nat) : Int) = (i : Int) + 1 by omega] at h9
      exact h9
  refine zs_aload_n hΓ dX5_way_0 (pc' := 1) rfl rfl rfl ?_
  refine zs_iconst hΓ dX5_way_1 (pc' := 2) rfl ⟨by decide, by decide⟩ ?_
  refine zs_puti hΓ dX5_way_2 (pc' := 5) rfl fX5_1 (fun q hq => (by cases hq; exact Or.inl rfl)) (i9 := 0) rfl trivial (tw_t hTw) (show (0 : Int) ≤ 1 by decide) ?_
  rw [← e1]; have hTw := T.k.tw
  refine zs_aload_n hΓ dX5_way_5 (pc' := 6) rfl rfl rfl ?_
  refine zs_iload_n hΓ dX5_way_6 (pc' := 7) rfl rfl rfl ?_
  refine zs_iload_n hΓ dX5_way_7 (pc' := 8) rfl rfl rfl ?_
  refine zs_iload_n hΓ dX5_way_8 (pc' := 9) rfl rfl rfl ?_
  refine zs_callVIP hΓ dX5_way_9 (pc' := 12) rfl kX5_497 (con_X5_isWay l hTw hR hok.hd.d from' to habit) (tw_t hTw) rfl rfl rfl (Nat.le_of_ble_eq_true rfl) (by omega) (by decide) (by omega) (by omega) ?_ (fun _ _ q _ => False.elim q)
  refine zs_ifne hΓ dX5_way_12 (tgt := 18) (by decide) (pc' := 15) rfl (fun c_12 => ?_) (fun c_12 => ?_)
  · try have c_12 := iB_ne c_12
    refine zs_aload_n hΓ dX5_way_18 (pc' := 19) rfl rfl rfl ?_
    refine zs_iload_n hΓ dX5_way_19 (pc' := 20) rfl rfl rfl ?_
    refine zs_iload_n hΓ dX5_way_20 (pc' := 21) rfl rfl rfl ?_
    refine zs_iload_n hΓ dX5_way_21 (pc' := 22) rfl rfl rfl ?_
    refine zs_callVI hΓ dX5_way_22 (pc' := 25) rfl kX5_500 (con_X5_walk l T hR from' to habit ⟨c_12.1.1, by omega⟩ ⟨c_12.2.1.1, by omega⟩ c_12.2.2.2) (tw_t hTw) rfl rfl rfl (Nat.le_of_ble_eq_true rfl) (by omega) (by decide) (by omega) (by omega) (fun x_22 h_22 q_22 k_22 => ?_) (fun _ _ q _ => False.elim q)
    obtain ⟨rfl, p1, p2⟩ := q_22
    rw [hp] at p2 ⊢
    have hTw := hTw.same p1
    refine zs_istore hΓ dX5_way_25 (pc' := 27) rfl (L' := [some (zR _), some (zI _), some (zI _), some (zI _), some (zI _), none]) (by decide) rfl rfl ?_
    refine zs_aload_n hΓ dX5_way_27 (pc' := 28) rfl rfl rfl ?_
    refine zs_aload_n hΓ dX5_way_28 (pc' := 29) rfl rfl rfl ?_
    refine zs_geti hΓ dX5_way_29 (pc' := 32) rfl fX5_494 (i9 := 60) rfl rfl (tw_t hTw) ?_
    refine zs_eqI p2.1 ?_
    refine zs_puti hΓ dX5_way_32 (pc' := 35) rfl fX5_503 (fun q hq => (by cases hq; exact Or.inl rfl)) (i9 := 61) rfl trivial (tw_t hTw) (show (0 : Int) ≤ 1 by decide) ?_
    refine zs_iconst hΓ dX5_way_35 (pc' := 36) rfl ⟨by decide, by decide⟩ ?_
    refine zs_istore hΓ dX5_way_36 (pc' := 38) rfl (L' := [some (zR _), some (zI _), some (zI _), some (zI _), some (zI _), some (zI _)]) (by decide) rfl rfl ?_
    exact lp c_12 (p.1.length + 1) 0 _ (by omega) ((p1.mono fun _ _ z => Or.inl z).set (Or.inr (Or.inr ⟨rfl, rfl⟩))) ⟨by rw [gI_setI, if_neg (by decide)]; exact p2.1, by rw [gI_ot _ _ _ (n1 (by decide))]; exact p2.2.1, fun k c hc => by rw [gI_ot _ _ _ (n1 (by decide))]; exact p2.2.2 k c hc⟩ (by rw [gI_setI, if_pos ⟨rfl, rfl⟩]) (fun j hj => by omega)
  · try have c_12 := iB_eq c_12
    refine zs_bipush hΓ dX5_way_15 (pc' := 17) rfl ⟨by decide, by decide⟩ ?_
    exact zs_iret hΓ dX5_way_17 rfl (by omega) (by omega) (⟨_, rfl, fun z => absurd z c_12, fun _ => ⟨rfl, rfl⟩⟩)
/-- which of the first h habits hold -/
noncomputable def sFits (m : Nat → Prop) : Nat → Nat
  | 0 => 0
  | h + 1 => sFits m h ||| zIf (m h) (2 ^ h) 0
/-- whether a way is the one told -/
def sFit (R : Int → Int) (b mu : Int) (hs : Int → zTx) (from' to N : Int) (o : Int → Int) (hb : Nat) : Prop := wAns (sWalk R b mu hs from' to hb) = N ∧ ∀ (k : Nat) (c : Int), (k : Int) < N → (sWalk R b mu hs from' to hb).1[k]? = some c → c = o k
abbrev okFits (R : Int → Int) (from' to N : Int) : Prop := okWay R from' to 0 ∧ 1 ≤ N ∧ N ≤ 200
theorem con_X5_fits (l : Launch) {h h1 : zH} (e1 : h1 = setI h (1, 0) 0 0) {B b mu dry : Int} {tx0 : zTx} {hs : Int → zTx} (T : TwD h1 B b mu dry tx0 hs) {R o : Int → Int} {N : Int} (hR : gI h1 (1, 5) = R) (hO : ∀ k, gI h1 (1, 1) k % 256 = o k) (hN : gI h1 (1, 0) 2 = N) (hsz : 0 ≤ N ∧ N ≤ 440) (from' to : Int) : Con l mX5_fits 9 0 0 [zR (some (1, 0)), zI from', zI to] h (rI fun x h' => (okFits R from' to N → x = ((sFits (sFit R b mu hs from' to N o) 6 : Nat) : Int) ∧ Same cX (setI h1 (1, 0) 2 0) h') ∧ (¬ okFits R from' to N → x = -1 ∧ Same cX (setI h1 (1, 0) 2 0) h')) zNo := by
  refine Con.ofS (by decide +kernel) (Nat.le_of_ble_eq_true rfl) fun Γ hΓ hno hwf hav => ?_
  have hΓ : Ctx Γ l cX5_fits RX5 "fits" 7 (Option.some Jvm.ClassFile.FieldType.int) _ _ 9 _ _ := hΓ
  show SS Γ 0 [some (zR _), some (zI _), some (zI _), none, none, none, none] [] _ 0 0
  have hTw := T.k.tw.thr e1
  have hok := T.k.ok
  rw [hR] at hok
  obtain ⟨hA, hAe⟩ : ∃ hA, hA = setI (setI (setI h1 (1, 0) 3 N) (1, 0) 2 0) (1, 0) 4 0 := ⟨_, rfl⟩
  have sA : Same (fun a j => a = (1, 0) ∧ 2 ≤ j ∧ j ≤ 4) h1 hA := by rw [hAe]; exact (((Same.rf _ _).set ⟨rfl, by decide⟩).set ⟨rfl, by decide⟩).set ⟨rfl, by decide⟩
  have sA2 : Same cX (setI h1 (1, 0) 2 0) hA := by rw [hAe]; exact taken_same h1 N
  have a3 : gI hA (1, 0) 3 = N := by rw [hAe, gI_setI, if_neg (by decide), gI_setI, if_neg (by decide), gI_setI, if_pos ⟨rfl, rfl⟩]
  have aO : ∀ k, gI hA (1, 1) k % 256 = o k := fun k => by rw [sA.2.2 _ _ (fun z => n1 (by decide) z.1)]; exact hO k
  have aR : gI hA (1, 5) = R := (sA.row fun _ z => n1 (by decide) z.1).trans hR
  have hTA : TwD hA B b mu dry tx0 hs := T.sameG sA (fun k j k1 k2 z => n1 (by omega) z.1) (fun j j1 j2 z => by omega) (by rw [aR]; exact hok)
  generalize hm : sFit R b mu hs from' to N o = mm at hΓ
  have fc : ∀ h', Same cC hA h' → TwD h' B b mu dry tx0 hs ∧ gI h' (1, 0) 3 = N ∧ (∀ k, gI h' (1, 1) k % 256 = o k) ∧ gI h' (1, 5) = R := fun h' hS => by
    have r5 : gI h' (1, 5) = R := (hS.row fun _ => cC_no (by omega)).trans aR
    exact ⟨hTA.same (hS.mono fun _ _ z => Or.inl z) (by rw [r5]; exact hok), (hS.2.2 _ _ (cC_no (by decide))).trans a3, fun k => by rw [hS.2.2 _ _ (cC_no (by omega))]; exact aO k, r5⟩
  have lp : okFits R from' to N → ∀ (m n : Nat) (h' : zH) (z5 z6 : Option zV), n + m = 6 → Same cC hA h' → SS Γ 40 [some (zR (some (1, 0))), some (zI from'), some (zI to), some (zI ((sFits mm n : Nat) : Int)), some (zI n), none, none] [] h' 0 0 := by
    intro hk m
    induction m with
    | zero =>
      intro n h' _ _ hn hS
      have hTw := (fc h' hS).1.k.tw
      refine zs_iload hΓ dX5_fits_40 (pc' := 42) rfl rfl ?_
      refine zs_bipush hΓ dX5_fits_42 (pc' := 44) rfl ⟨by decide, by decide⟩ ?_
      refine zs_icmpge hΓ dX5_fits_44 (tgt := 139) (by decide) (pc' := 47) rfl (fun c_44 => ?_) (fun c_44 => False.elim (absurd c_44 (by omega)))
      refine zs_iload_n hΓ dX5_fits_139 (pc' := 140) rfl rfl rfl ?_
      exact zs_iret hΓ dX5_fits_140 rfl (by omega) (by omega) (⟨_, rfl, fun _ => ⟨by rw [show n = 6 by omega], sA2.tr (hS.mono fun _ _ z => Or.inl z)⟩, fun z => absurd hk z⟩)
    | succ m ih =>
      intro n h' _ _ hn hS
      obtain ⟨T', t3, tO, t5⟩ := fc h' hS
      have hTw := T'.k.tw
      have hlen := sWk_len R b mu (hs n) (R (3 + to)) 200 (R (3 + from')) (-1) (-1)
      have hu : sFits mm (n + 1) = sFits mm n ||| zIf (mm n) (2 ^ n) 0 := rfl
      have hme : mm n ↔ wAns (sWalk R b mu hs from' to n) = N ∧ ∀ (k : Nat) (c : Int), (k : Int) < N → (sWalk R b mu hs from' to n).1[k]? = some c → c = o k := by rw [← hm]; exact Iff.rfl
      have hpw : (2 : Nat) ^ n ≤ 2 ^ 5 := Nat.pow_le_pow_right (by decide) (by omega)
      obtain ⟨P9, hP9⟩ : ∃ P, P = 2 ^ n := ⟨_, rfl⟩
      rw [← hP9] at hu hpw
      have ih9 : ∀ h'', Same cC hA h'' → SS Γ 40 [some (zR (some (1, 0))), some (zI from'), some (zI to), some (zI ((sFits mm (n + 1) : Nat) : Int)), some (zI ((n : Int) + 1)), none, none] [] h'' 0 0 := fun h'' a => by
        have := ih (n + 1) h'' none none (by omega) a
        rw [show ((n + 1 : Nat) : Int) = (n : Int) + 1 by omega] at this
        exact this
      generalize hp : sWalk R b mu hs from' to n = p at hme
      have hlen : p.1.length ≤ 200 := by rw [← hp]; exact hlen
      -- behind the look
      have fin : ∀ (q : Prop) (h'' : zH) (i : Int), Same cC hA h'' → (q ↔ mm n) → SS Γ 117 [some (zR (some (1, 0))), some (zI from'), some (zI to), some (zI ((sFits mm n : Nat) : Int)), some (zI n), some (zI (iB q)), some (zI i)] [] h'' 0 0 := by
        intro q h'' i hS2 hq
        have hTw := (fc h'' hS2).1.k.tw
        refine zs_iload_n hΓ dX5_fits_117 (pc' := 118) rfl rfl rfl ?_
        refine zs_iload hΓ dX5_fits_118 (pc' := 120) rfl rfl ?_
        refine zs_ifeq hΓ dX5_fits_120 (tgt := 130) (by decide) (pc' := 123) rfl (fun c_120 => ?_) (fun c_120 => ?_)
        · have c_120 := iB_eq c_120
          refine zs_iconst hΓ dX5_fits_130 (pc' := 131) rfl ⟨by decide, by decide⟩ ?_
          refine zs_ior hΓ dX5_fits_131 (pc' := 132) rfl (by omega) (by omega) ?_
          refine zs_istore_n hΓ dX5_fits_132 (pc' := 133) rfl (L' := [some (zR _), some (zI _), some (zI _), some (zI _), some (zI _), some (zI _), some (zI _)]) rfl (by decide) rfl rfl ?_
          refine zs_iinc hΓ dX5_fits_133 (pc' := 136) rfl (L' := [some (zR _), some (zI _), some (zI _), some (zI _), some (zI _), some (zI _), some (zI _)]) rfl (by unfold inI; omega) (by decide) rfl rfl ?_
          refine zs_goto hΓ dX5_fits_136 (tgt := 40) (by decide) ?_
          refine zs_drop 5 (L' := [some (zR _), some (zI _), some (zI _), some (zI _), some (zI _), none, some (zI _)]) rfl ?_
          refine zs_drop 6 (L' := [some (zR _), some (zI _), some (zI _), some (zI _), some (zI _), none, none]) rfl ?_
          have h9 := ih9 h'' hS2
          rw [hu, zIf_f (fun z => c_120 (hq.mpr z))] at h9
          exact h9
        · have c_120 := iB_ne c_120
          refine zs_iconst hΓ dX5_fits_123 (pc' := 124) rfl ⟨by decide, by decide⟩ ?_
          refine zs_iload hΓ dX5_fits_124 (pc' := 126) rfl rfl ?_
          refine zs_ishl (m := (P9 : Int)) n hΓ dX5_fits_126 (pc' := 127) rfl (by decide) (by omega) rfl (by rw [hP9]) (by unfold inI; omega) ?_
          refine zs_goto hΓ dX5_fits_127 (tgt := 131) (by decide) ?_
          refine zs_ior hΓ dX5_fits_131 (pc' := 132) rfl (by omega) (by omega) ?_
          refine zs_istore_n hΓ dX5_fits_132 (pc' := 133) rfl (L' := [some (zR _), some (zI _), some (zI _), some (zI _), some (zI _), some (zI _), some (zI _)]) rfl (by decide) rfl rfl ?_
          refine zs_iinc hΓ dX5_fits_133 (pc' := 136) rfl (L' := [some (zR _), some (zI _), some (zI _), some (zI _), some (zI _), some (zI _), some (zI _)]) rfl (by unfold inI; omega) (by decide) rfl rfl ?_
          refine zs_goto hΓ dX5_fits_136 (tgt := 40) (by decide) ?_
          refine zs_drop 5 (L' := [some (zR _), some (zI _), some (zI _), some (zI _), some (zI _), none, some (zI _)]) rfl ?_
          refine zs_drop 6 (L' := [some (zR _), some (zI _), some (zI _), some (zI _), some (zI _), none, none]) rfl ?_
          have h9 := ih9 h'' hS2
          rw [hu, zIf_t (hq.mp c_120)] at h9
          rw [Int.one_mul, Int.toNat_natCast, Int.toNat_natCast]
          exact h9
      have inner : ∀ (m9 i : Nat) (q : Prop) (h'' : zH), (i : Int) + m9 = N → Same cC hA h'' → PathR h'' (R (3 + from')) p.1 → (q ↔ wAns p = N ∧ ∀ (k : Nat) (c : Int), k < i → p.1[k]? = some c → c = o k) → SS Γ 72 [some (zR (some (1, 0))), some (zI from'), some (zI to), some (zI ((sFits mm n : Nat) : Int)), some (zI n), some (zI (iB q)), some (zI i)] [] h'' 0 0 := by
        intro m9
        induction m9 with
        | zero =>
          intro i q h'' hi hS2 hP hq
          obtain ⟨T2, u3, uO, u5⟩ := fc h'' hS2
          have hTw := T2.k.tw
          have f9 := fin q h'' i hS2 (hq.trans ((and_congr_right fun _ => ⟨fun z k c hk => z k c (by omega), fun z k c hk => z k c (by omega)⟩).trans hme.symm))
          refine zs_iload hΓ dX5_fits_72 (pc' := 74) rfl rfl ?_
          refine zs_aload_n hΓ dX5_fits_74 (pc' := 75) rfl rfl rfl ?_
          refine zs_geti hΓ dX5_fits_75 (pc' := 78) rfl fX5_18 (i9 := 3) rfl rfl (tw_t hTw) ?_
          refine zs_eqI u3 ?_
          refine zs_icmpge hΓ dX5_fits_78 (tgt := 117) (by decide) (pc' := 81) rfl (fun c_78 => ?_) (fun c_78 => False.elim (absurd c_78 (by omega)))
          exact f9
        | succ m9 ih2 =>
          intro i q h'' hi hS2 hP hq
          obtain ⟨T2, u3, uO, u5⟩ := fc h'' hS2
          have hTw := T2.k.tw
          have ih3 : ∀ q' : Prop, (q' ↔ wAns p = N ∧ ∀ (k : Nat) (c : Int), k < i + 1 → p.1[k]? = some c → c = o k) → SS Γ 72 [some (zR (some (1, 0))), some (zI from'), some (zI to), some (zI ((sFits mm n : Nat) : Int)), some (zI n), some (zI (iB q')), some (zI ((i : Int) + 1))] [] h'' 0 0 := fun q' hq' => by
            have := ih2 (i + 1) q' h'' (by omega) hS2 hP hq'
            rw [show ((i + 1 : Nat) : Int) = (i : Int) + 1 by omega] at this
            exact this
          refine zs_iload hΓ dX5_fits_72 (pc' := 74) rfl rfl ?_
          refine zs_aload_n hΓ dX5_fits_74 (pc' := 75) rfl rfl rfl ?_
          refine zs_geti hΓ dX5_fits_75 (pc' := 78) rfl fX5_18 (i9 := 3) rfl rfl (tw_t hTw) ?_
          refine zs_eqI u3 ?_
          refine zs_icmpge hΓ dX5_fits_78 (tgt := 117) (by decide) (pc' := 81) rfl (fun c_78 => False.elim (absurd c_78 (by omega))) (fun c_78 => ?_)
          refine zs_iload hΓ dX5_fits_81 (pc' := 83) rfl rfl ?_
          refine zs_ifeq hΓ dX5_fits_83 (tgt := 117) (by decide) (pc' := 86) rfl (fun c_83 => ?_) (fun c_83 => ?_)
          · have c_83 := iB_eq c_83
            have c9 := fin q h'' i hS2 ⟨fun z => absurd z c_83, fun z => absurd (hq.mpr ⟨(hme.mp z).1, fun k c hk => (hme.mp z).2 k c (by omega)⟩) c_83⟩
            exact c9
          · have c_83 := iB_ne c_83
            have q9 := hq.mp c_83
            have hle : p.1.length = N.toNat := by
              have q8 := q9.1
              unfold wAns at q8
              by_cases e : p.2
              · rw [zIf_t e] at q8; omega
              · rw [zIf_f e] at q8; omega
            have hil : i < p.1.length := by omega
            have hgi := List.getElem?_eq_getElem hil
            generalize p.1[i] = ci at hgi
            refine zs_aload_n hΓ dX5_fits_86 (pc' := 87) rfl rfl rfl ?_
            refine zs_getrE hΓ dX5_fits_87 (pc' := 90) rfl fX5_110 (i9 := 54) rfl rfl (tw_t hTw) (tw_p54 hTw) ?_
            refine zs_iload hΓ dX5_fits_90 (pc' := 92) rfl rfl ?_
            refine zs_iconst hΓ dX5_fits_92 (pc' := 93) rfl ⟨by decide, by decide⟩ ?_
            refine zs_iadd hΓ dX5_fits_93 (pc' := 94) rfl (by unfold inI; omega) ?_
            refine zs_iald hΓ dX5_fits_94 (pc' := 95) rfl (tw_a54 hTw) (by omega) (by omega) ?_
            refine zs_eqI (hP.2.2 i ci hgi) ?_
            refine zs_aload_n hΓ dX5_fits_95 (pc' := 96) rfl rfl rfl ?_
            refine zs_iload hΓ dX5_fits_96 (pc' := 98) rfl rfl ?_
            refine zs_callVIP hΓ dX5_fits_98 (pc' := 101) rfl kX5_147 (con_X5_octet l hTw i (by omega)) (tw_t hTw) rfl rfl rfl (Nat.le_of_ble_eq_true rfl) (by omega) (by decide) (by omega) (by omega) ?_ (fun _ _ q _ => False.elim q)
            rw [uO]
            refine zs_icmpne hΓ dX5_fits_101 (tgt := 108) (by decide) (pc' := 104) rfl (fun c_101 => ?_) (fun c_101 => ?_)
            · refine zs_iconst hΓ dX5_fits_108 (pc' := 109) rfl ⟨by decide, by decide⟩ ?_
              first | refine zs_eqI (iB_f (p := ci = o i) (by assumption)) ?_ | refine zs_eqI (iB_t (p := ci = o i) (by assumption)) ?_
              refine zs_istore hΓ dX5_fits_109 (pc' := 111) rfl (L' := [some (zR _), some (zI _), some (zI _), some (zI _), some (zI _), some (zI _), some (zI _)]) (by decide) rfl rfl ?_
              refine zs_iinc hΓ dX5_fits_111 (pc' := 114) rfl (L' := [some (zR _), some (zI _), some (zI _), some (zI _), some (zI _), some (zI _), some (zI _)]) rfl (by unfold inI; omega) (by decide) rfl rfl ?_
              refine zs_goto hΓ dX5_fits_114 (tgt := 72) (by decide) ?_
              exact ih3 _ ⟨fun z => ⟨q9.1, fun k c hk hkc => by by_cases e : k = i; rw [e, hgi] at hkc; cases hkc; rw [e]; exact z; exact q9.2 k c (by omega) hkc⟩, fun z => z.2 i ci (by omega) hgi⟩
            · refine zs_iconst hΓ dX5_fits_104 (pc' := 105) rfl ⟨by decide, by decide⟩ ?_
              refine zs_goto hΓ dX5_fits_105 (tgt := 109) (by decide) ?_
              first | refine zs_eqI (iB_f (p := ci = o i) (by assumption)) ?_ | refine zs_eqI (iB_t (p := ci = o i) (by assumption)) ?_
              refine zs_istore hΓ dX5_fits_109 (pc' := 111) rfl (L' := [some (zR _), some (zI _), some (zI _), some (zI _), some (zI _), some (zI _), some (zI _)]) (by decide) rfl rfl ?_
              refine zs_iinc hΓ dX5_fits_111 (pc' := 114) rfl (L' := [some (zR _), some (zI _), some (zI _), some (zI _), some (zI _), some (zI _), some (zI _)]) rfl (by unfold inI; omega) (by decide) rfl rfl ?_
              refine zs_goto hΓ dX5_fits_114 (tgt := 72) (by decide) ?_
              exact ih3 _ ⟨fun z => ⟨q9.1, fun k c hk hkc => by by_cases e : k = i; rw [e, hgi] at hkc; cases hkc; rw [e]; exact z; exact q9.2 k c (by omega) hkc⟩, fun z => z.2 i ci (by omega) hgi⟩
      refine zs_iload hΓ dX5_fits_40 (pc' := 42) rfl rfl ?_
      refine zs_bipush hΓ dX5_fits_42 (pc' := 44) rfl ⟨by decide, by decide⟩ ?_
      refine zs_icmpge hΓ dX5_fits_44 (tgt := 139) (by decide) (pc' := 47) rfl (fun c_44 => False.elim (absurd c_44 (by omega))) (fun c_44 => ?_)
      refine zs_aload_n hΓ dX5_fits_47 (pc' := 48) rfl rfl rfl ?_
      refine zs_iload_n hΓ dX5_fits_48 (pc' := 49) rfl rfl rfl ?_
      refine zs_iload_n hΓ dX5_fits_49 (pc' := 50) rfl rfl rfl ?_
      refine zs_iload hΓ dX5_fits_50 (pc' := 52) rfl rfl ?_
      refine zs_callVI hΓ dX5_fits_52 (pc' := 55) rfl kX5_500 (con_X5_walk l T' t5 from' to n ⟨hk.1.1.1, by have := hk.1.1.2; omega⟩ ⟨hk.1.2.1.1, by have := hk.1.2.1.2; omega⟩ (by omega)) (tw_t hTw) rfl rfl rfl (Nat.le_of_ble_eq_true rfl) (by omega) (by decide) (by omega) (by omega) (fun x_52 h_52 q_52 k_52 => ?_) (fun _ _ q _ => False.elim q)
      obtain ⟨rfl, p1, p2⟩ := q_52
      rw [hp] at p2 ⊢
      have hS2 := hS.tr p1
      obtain ⟨T2, u3, uO, u5⟩ := fc _ hS2
      have hTw := T2.k.tw
      have hwr : -1 ≤ wAns p ∧ wAns p ≤ 200 := by
        unfold wAns
        by_cases e : p.2
        · rw [zIf_t e]; omega
        · rw [zIf_f e]; decide
      refine zs_aload_n hΓ dX5_fits_55 (pc' := 56) rfl rfl rfl ?_
      refine zs_geti hΓ dX5_fits_56 (pc' := 59) rfl fX5_18 (i9 := 3) rfl rfl (tw_t hTw) ?_
      refine zs_eqI u3 ?_
      refine zs_icmpne hΓ dX5_fits_59 (tgt := 66) (by decide) (pc' := 62) rfl (fun c_59 => ?_) (fun c_59 => ?_)
      · refine zs_iconst hΓ dX5_fits_66 (pc' := 67) rfl ⟨by decide, by decide⟩ ?_
        first | refine zs_eqI (iB_f (p := wAns p = N) (by assumption)) ?_ | refine zs_eqI (iB_t (p := wAns p = N) (by assumption)) ?_
        refine zs_istore hΓ dX5_fits_67 (pc' := 69) rfl (L' := [some (zR _), some (zI _), some (zI _), some (zI _), some (zI _), some (zI _), none]) (by decide) rfl rfl ?_
        refine zs_iconst hΓ dX5_fits_69 (pc' := 70) rfl ⟨by decide, by decide⟩ ?_
        refine zs_istore hΓ dX5_fits_70 (pc' := 72) rfl (L' := [some (zR _), some (zI _), some (zI _), some (zI _), some (zI _), some (zI _), some (zI _)]) (by decide) rfl rfl ?_
        exact inner N.toNat 0 _ _ (by omega) hS2 p2 ⟨fun z => ⟨z, fun k c hk => by omega⟩, fun z => z.1⟩
      · refine zs_iconst hΓ dX5_fits_62 (pc' := 63) rfl ⟨by decide, by decide⟩ ?_
        refine zs_goto hΓ dX5_fits_63 (tgt := 67) (by decide) ?_
        first | refine zs_eqI (iB_f (p := wAns p = N) (by assumption)) ?_ | refine zs_eqI (iB_t (p := wAns p = N) (by assumption)) ?_
        refine zs_istore hΓ dX5_fits_67 (pc' := 69) rfl (L' := [some (zR _), some (zI _), some (zI _), some (zI _), some (zI _), some (zI _), none]) (by decide) rfl rfl ?_
        refine zs_iconst hΓ dX5_fits_69 (pc' := 70) rfl ⟨by decide, by decide⟩ ?_
        refine zs_istore hΓ dX5_fits_70 (pc' := 72) rfl (L' := [some (zR _), some (zI _), some (zI _), some (zI _), some (zI _), some (zI _), some (zI _)]) (by decide) rfl rfl ?_
        exact inner N.toNat 0 _ _ (by omega) hS2 p2 ⟨fun z => ⟨z, fun k c hk => by omega⟩, fun z => z.1⟩
  refine zs_aload_n hΓ dX5_fits_0 (pc' := 1) rfl rfl rfl ?_
  refine zs_iconst hΓ dX5_fits_1 (pc' := 2) rfl ⟨by decide, by decide⟩ ?_
  refine zs_puti hΓ dX5_fits_2 (pc' := 5) rfl fX5_1 (fun q hq => (by cases hq; exact Or.inl rfl)) (i9 := 0) rfl trivial (tw_t hTw) (show (0 : Int) ≤ 1 by decide) ?_
  rw [← e1]; have hTw := T.k.tw
  refine zs_aload_n hΓ dX5_fits_5 (pc' := 6) rfl rfl rfl ?_
  refine zs_callVVE hΓ dX5_fits_6 (pc' := 9) rfl kX5_144 (con_X5_taken l hTw) (tw_t hTw) rfl rfl rfl (Nat.le_of_ble_eq_true rfl) (by omega) (by decide) (by omega) (by omega) ?_ (fun _ _ q _ => False.elim q)
  rw [hN, ← hAe]; have hTw := hTA.k.tw
  refine zs_aload_n hΓ dX5_fits_9 (pc' := 10) rfl rfl rfl ?_
  refine zs_iload_n hΓ dX5_fits_10 (pc' := 11) rfl rfl rfl ?_
  refine zs_iload_n hΓ dX5_fits_11 (pc' := 12) rfl rfl rfl ?_
  refine zs_iconst hΓ dX5_fits_12 (pc' := 13) rfl ⟨by decide, by decide⟩ ?_
  refine zs_callVIP hΓ dX5_fits_13 (pc' := 16) rfl kX5_497 (con_X5_isWay l hTw aR hok.hd.d from' to 0) (tw_t hTw) rfl rfl rfl (Nat.le_of_ble_eq_true rfl) (by omega) (by decide) (by omega) (by omega) ?_ (fun _ _ q _ => False.elim q)
  refine zs_ifeq hΓ dX5_fits_16 (tgt := 33) (by decide) (pc' := 19) rfl (fun c_16 => ?_) (fun c_16 => ?_)
  · try have c_16 := iB_eq c_16
    refine zs_iconst hΓ dX5_fits_33 (pc' := 34) rfl ⟨by decide, by decide⟩ ?_
    exact zs_iret hΓ dX5_fits_34 rfl (by omega) (by omega) (⟨_, rfl, fun z => absurd z.1 c_16, fun _ => ⟨rfl, sA2⟩⟩)
  · try have c_16 := iB_ne c_16
    refine zs_aload_n hΓ dX5_fits_19 (pc' := 20) rfl rfl rfl ?_
    refine zs_geti hΓ dX5_fits_20 (pc' := 23) rfl fX5_18 (i9 := 3) rfl rfl (tw_t hTw) ?_
    refine zs_eqI a3 ?_
    refine zs_iconst hΓ dX5_fits_23 (pc' := 24) rfl ⟨by decide, by decide⟩ ?_
    refine zs_sipush hΓ dX5_fits_24 (pc' := 27) rfl ⟨by decide, by decide⟩ ?_
    refine zs_callSIP hΓ dX5_fits_27 (pc' := 30) rfl kX5_132 (con_X5_isIn l _ _ _) rfl rfl (Nat.le_of_ble_eq_true rfl) (by omega) (by decide) (by omega) (by omega) ?_ (fun _ _ q _ => False.elim q)
    refine zs_ifne hΓ dX5_fits_30 (tgt := 35) (by decide) (pc' := 33) rfl (fun c_30 => ?_) (fun c_30 => ?_)
    · try have c_30 := iB_ne c_30
      refine zs_iconst hΓ dX5_fits_35 (pc' := 36) rfl ⟨by decide, by decide⟩ ?_
      refine zs_istore_n hΓ dX5_fits_36 (pc' := 37) rfl (L' := [some (zR _), some (zI _), some (zI _), some (zI _), none, none, none]) rfl (by decide) rfl rfl ?_
      refine zs_iconst hΓ dX5_fits_37 (pc' := 38) rfl ⟨by decide, by decide⟩ ?_
      refine zs_istore hΓ dX5_fits_38 (pc' := 40) rfl (L' := [some (zR _), some (zI _), some (zI _), some (zI _), some (zI _), none, none]) (by decide) rfl rfl ?_
      exact lp ⟨c_16, c_30⟩ 6 0 hA none none (by omega) (Same.rf _ _)
    · try have c_30 := iB_eq c_30
      refine zs_iconst hΓ dX5_fits_33 (pc' := 34) rfl ⟨by decide, by decide⟩ ?_
      exact zs_iret hΓ dX5_fits_34 rfl (by omega) (by omega) (⟨_, rfl, fun z => absurd z.2 c_30, fun _ => ⟨rfl, sA2⟩⟩)
