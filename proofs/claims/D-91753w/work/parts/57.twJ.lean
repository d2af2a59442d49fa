/-! THE TWIN, J: a walker's tick, a tick, weeks -/
set_option maxRecDepth 100000
section ZH
variable {Γ : zG} {pc : Nat} {L : List (Option zV)} {st : List zV} {h : zH} {k n : Nat}
/-- the heap gets a name -/
theorem zs_nm (kk : ∀ h', h' = h → SS Γ pc L st h' k n) : SS Γ pc L st h k n := kk h rfl
end ZH
theorem TkR.small {h h' : zH} (s : Same cW h h') (hc : ∀ j, 522 ≤ j → gI h' (1, 5) j = gI h (1, 5) j) (h42 : gI h' (1, 0) 42 = gI h (1, 0) 42) (up : gI h (1, 5) 519 ≤ gI h' (1, 5) 519) (ar : 0 ≤ gI h (1, 0) 41 → gI h (1, 0) 41 + (gI h' (1, 5) 519 - gI h (1, 5) 519) ≤ 2000000000 → gI h' (1, 0) 41 = gI h (1, 0) 41 + (gI h' (1, 5) 519 - gI h (1, 5) 519)) : TkR h h' := by
  refine TkR.mk s ar up (fun c hc9 => ?_) (fun e => ?_)
  · show gI h (1, 5) _ ≤ gI h' (1, 5) _
    rw [hc _ (by omega)]
    exact Int.le_refl _
  · rw [h42]
    rcases e with e | e
    · rw [e]
      refine iB_f ?_
      rintro (z | ⟨z1, z2⟩)
      · omega
      · have : cel (gI h' (1, 5)) (gI h (1, 0) 40) 6 = cel (gI h (1, 5)) (gI h (1, 0) 40) 6 := hc _ (by omega)
        omega
    · rw [e]; exact iB_t (Or.inl rfl)
theorem con_X5_goes (l : Launch) {h : zH} {B b mu : Int} {tx0 : zTx} {hs : Int → zTx} (T : TwK h B b mu tx0 hs) (hB : B ≤ 900000000) (k : Int) (k1 : 0 ≤ k) (k2 : k < gI h (1, 5) 157) : Con l mX5_goes 8 0 0 [zR (some (1, 0)), zI (158 + 6 * k)] h (rI fun x h' => x = iB (sGoes (gI h (1, 5)) b mu tx0 hs (158 + 6 * k)).2 ∧ gI h' (1, 5) = (sGoes (gI h (1, 5)) b mu tx0 hs (158 + 6 * k)).1 ∧ TkR h h') zNo := by
  refine Con.ofS (by decide +kernel) (Nat.le_of_ble_eq_true rfl) fun Γ hΓ hno hwf hav => ?_
  have hΓ : Ctx Γ l cX5_goes RX5 "goes" 4 (Option.some Jvm.ClassFile.FieldType.boolean) _ _ 8 _ _ := hΓ
  show SS Γ 0 [some (zR _), some (zI _), none, none] [] _ 0 0
  have hTw := T.tw
  have hok := T.ok
  generalize hR : gI h (1, 5) = R at *
  have hm := hok.wk.1
  have hw9 := hok.hd.rw
  have hcs := hw9.c
  have hk := hok.wk.2 k k1 k2
  have hh := hok.here k1 k2
  have hwm := hok.hd.wm
  have hws := hok.hd.ws _ hk.2.1.1 hk.2.1.2
  have hd2 := hok.hd.d
  have hct := hok.ct
  unfold RCt at hct
  have hR2 := hok.step (b := b) (mu := mu) (tx0 := tx0) (hs := hs) k1 k2 T.t0.wf
  have hct2 := hR2.ct
  unfold RCt at hct2
  have hage := (hR2.wk.2 k k1 (by have : sStep R b mu tx0 hs (158 + 6 * k) 157 = R 157 := by
                                    unfold sStep
                                    try dsimp only
                                    split
                                    · rename_i c
                                      have hd8 := (sWay_r hok b mu hs k1 k2).resolve_left (by omega)
                                      rw [sTread_lo hd8.2.1 (by omega), upR_n _ _ (by omega), upR_n _ _ (by omega), upR_n _ _ (by omega), upR_n _ _ (by omega)]
                                    · exact upR_n _ _ (by omega)
                                  omega)).2.2.1
  have mid3 : ∀ (h3 : zH) (d9 : Int), TwT h3 → gI h3 (1, 5) = sStep R b mu tx0 hs (158 + 6 * k) → gI h3 (1, 0) 35 = sGoalOf R (158 + 6 * k) → TkR h h3 → SS Γ 154 [some (zR (some (1, 0))), some (zI (158 + 6 * k)), some (zI (13 + 6 * R (158 + 6 * k + 1))), some (zI d9)] [] h3 0 0 := by
    intro h3 d9 hTw hr3 h35 hTk
    have hct3 := hct2
    generalize hS2 : sStep R b mu tx0 hs (158 + 6 * k) = S2 at *
    have e2 : (sGoes R b mu tx0 hs (158 + 6 * k)).2 ↔ S2 (158 + 6 * k) ≠ sGoalOf R (158 + 6 * k) ∧ S2 (158 + 6 * k + 2) < 200 := by rw [← hS2]; exact Iff.rfl
    have e1 : (sGoes R b mu tx0 hs (158 + 6 * k)).1 = if S2 (158 + 6 * k) = sGoalOf R (158 + 6 * k) then upR S2 519 (S2 519 + 1) else if S2 (158 + 6 * k + 2) < 200 then S2 else upR S2 520 (S2 520 + 1) := by rw [← hS2]; rfl
    refine zs_aload_n hΓ dX5_goes_154 (pc' := 155) rfl rfl rfl ?_
    refine zs_getrE hΓ dX5_goes_155 (pc' := 158) rfl fX5_30 (i9 := 5) rfl rfl (tw_t hTw) (tw_p5 hTw) ?_
    refine zs_iload_n hΓ dX5_goes_158 (pc' := 159) rfl rfl rfl ?_
    refine zs_iald hΓ dX5_goes_159 (pc' := 160) rfl (tw_a5 hTw) (by omega) (by omega) ?_
    refine zs_eqI (congrFun hr3 _) ?_
    refine zs_aload_n hΓ dX5_goes_160 (pc' := 161) rfl rfl rfl ?_
    refine zs_geti hΓ dX5_goes_161 (pc' := 164) rfl fX5_383 (i9 := 35) rfl rfl (tw_t hTw) ?_
    refine zs_eqI h35 ?_
    refine zs_icmpne hΓ dX5_goes_164 (tgt := 191) (by decide) (pc' := 167) rfl (fun c_164 => ?_) (fun c_164 => ?_)
    · refine zs_aload_n hΓ dX5_goes_191 (pc' := 192) rfl rfl rfl ?_
      refine zs_getrE hΓ dX5_goes_192 (pc' := 195) rfl fX5_30 (i9 := 5) rfl rfl (tw_t hTw) (tw_p5 hTw) ?_
      refine zs_iload_n hΓ dX5_goes_195 (pc' := 196) rfl rfl rfl ?_
      refine zs_iconst hΓ dX5_goes_196 (pc' := 197) rfl ⟨by decide, by decide⟩ ?_
      refine zs_iadd hΓ dX5_goes_197 (pc' := 198) rfl (by unfold inI; omega) ?_
      refine zs_iald hΓ dX5_goes_198 (pc' := 199) rfl (tw_a5 hTw) (by omega) (by omega) ?_
      refine zs_eqI (congrFun hr3 _) ?_
      refine zs_sipush hΓ dX5_goes_199 (pc' := 202) rfl ⟨by decide, by decide⟩ ?_
      refine zs_icmpge hΓ dX5_goes_202 (tgt := 207) (by decide) (pc' := 205) rfl (fun c_202 => ?_) (fun c_202 => ?_)
      · refine zs_aload_n hΓ dX5_goes_207 (pc' := 208) rfl rfl rfl ?_
        refine zs_getrE hΓ dX5_goes_208 (pc' := 211) rfl fX5_30 (i9 := 5) rfl rfl (tw_t hTw) (tw_p5 hTw) ?_
        refine zs_sipush hΓ dX5_goes_211 (pc' := 214) rfl ⟨by decide, by decide⟩ ?_
        refine zs_dup2 hΓ dX5_goes_214 (pc' := 215) rfl  ?_
        refine zs_iald hΓ dX5_goes_215 (pc' := 216) rfl (tw_a5 hTw) (by omega) (by omega) ?_
        refine zs_eqI (congrFun hr3 _) ?_
        refine zs_iconst hΓ dX5_goes_216 (pc' := 217) rfl ⟨by decide, by decide⟩ ?_
        refine zs_iadd hΓ dX5_goes_217 (pc' := 218) rfl (by unfold inI; omega) ?_
        refine zs_iast hΓ dX5_goes_218 (pc' := 219) rfl (tw_a5 hTw) (show (0 : Int) ≤ 1 by decide) (by omega) (by omega) ?_
        refine zs_iconst hΓ dX5_goes_219 (pc' := 220) rfl ⟨by decide, by decide⟩ ?_
        exact zs_zret hΓ dX5_goes_220 rfl (by first | omega | exact iB_01 _) (by omega) (by omega) (⟨_, rfl, iB_f (fun z => by have := (e2.mp z).2; omega), by rw [gI_up, e1, if_neg c_164, if_neg (by omega), hr3], hTk.tr (TkR.small ((Same.rf _ _).set (Or.inl rfl)) (fun j hj => by rw [gI_up]; exact upR_n _ _ (by omega)) (by rw [gI_ot _ _ _ (n1 (by decide))]) (by rw [gI_up, upR_n _ _ (by decide)]; exact Int.le_refl _) (fun y1 y2 => by rw [gI_up, upR_n _ _ (by decide), gI_ot _ _ _ (n1 (by decide))]; omega))⟩)
      · refine zs_iconst hΓ dX5_goes_205 (pc' := 206) rfl ⟨by decide, by decide⟩ ?_
        exact zs_zret hΓ dX5_goes_206 rfl (by first | omega | exact iB_01 _) (by omega) (by omega) (⟨_, rfl, iB_t (e2.mpr ⟨c_164, by omega⟩), by rw [e1, if_neg c_164, if_pos (by omega), hr3], hTk⟩)
    · refine zs_aload_n hΓ dX5_goes_167 (pc' := 168) rfl rfl rfl ?_
      refine zs_getrE hΓ dX5_goes_168 (pc' := 171) rfl fX5_30 (i9 := 5) rfl rfl (tw_t hTw) (tw_p5 hTw) ?_
      refine zs_sipush hΓ dX5_goes_171 (pc' := 174) rfl ⟨by decide, by decide⟩ ?_
      refine zs_dup2 hΓ dX5_goes_174 (pc' := 175) rfl  ?_
      refine zs_iald hΓ dX5_goes_175 (pc' := 176) rfl (tw_a5 hTw) (by omega) (by omega) ?_
      refine zs_eqI (congrFun hr3 _) ?_
      refine zs_iconst hΓ dX5_goes_176 (pc' := 177) rfl ⟨by decide, by decide⟩ ?_
      refine zs_iadd hΓ dX5_goes_177 (pc' := 178) rfl (by unfold inI; omega) ?_
      refine zs_iast hΓ dX5_goes_178 (pc' := 179) rfl (tw_a5 hTw) (show (0 : Int) ≤ 1 by decide) (by omega) (by omega) ?_
      refine zs_aload_n hΓ dX5_goes_179 (pc' := 180) rfl rfl rfl ?_
      refine zs_dup hΓ dX5_goes_180 (pc' := 181) rfl  ?_
      refine zs_geti hΓ dX5_goes_181 (pc' := 184) rfl fX5_420 (i9 := 41) rfl rfl (tw_t hTw) ?_
      refine zs_eqI (y := gI h3 (1, 0) 41) (by rw [gI_ot _ _ _ (n1 (by decide))]) ?_
      refine zs_iconst hΓ dX5_goes_184 (pc' := 185) rfl ⟨by decide, by decide⟩ ?_
      refine zs_iaddW hΓ dX5_goes_185 (pc' := 186) rfl (fun z9 hz9 => ?_)
      refine zs_puti hΓ dX5_goes_186 (pc' := 189) rfl fX5_420 (fun q hq => (by cases hq; exact Or.inl rfl)) (i9 := 41) rfl trivial (tw_t hTw) (show (0 : Int) ≤ 1 by decide) ?_
      refine zs_nm (fun h4 e4 => ?_)
      have f5 : gI h4 (1, 5) = upR S2 519 (S2 519 + 1) := by rw [e4, gI_ot _ _ _ (n1 (by decide)), gI_up, hr3]
      have f41 : gI h4 (1, 0) 41 = z9 := by rw [e4, gI_setI, if_pos ⟨rfl, rfl⟩]
      have f42 : gI h4 (1, 0) 42 = gI h3 (1, 0) 42 := by rw [e4, gI_setI, if_neg (by decide), gI_ot _ _ _ (n1 (by decide))]
      have fS : Same cW h3 h4 := by rw [e4]; exact ((Same.rf _ _).set (Or.inl rfl)).set (Or.inr (Or.inr ⟨rfl, by decide⟩))
      refine zs_iconst hΓ dX5_goes_189 (pc' := 190) rfl ⟨by decide, by decide⟩ ?_
      exact zs_zret hΓ dX5_goes_190 rfl (by first | omega | exact iB_01 _) (by omega) (by omega) (⟨_, rfl, iB_f (fun z => (e2.mp z).1 c_164), by rw [f5, e1, if_pos c_164], hTk.tr (TkR.small fS (fun j hj => by rw [f5, upR_n _ _ (by omega), hr3]) f42 (by rw [f5, upR_s, hr3]; omega) (fun y1 y2 => by rw [f5, upR_s, hr3] at y2; rw [f5, f41, upR_s, hr3, hz9 ⟨by omega, by omega⟩]; omega))⟩)
  have mid : ∀ (h1 : zH), Same cW h h1 → gI h1 (1, 5) = R → gI h1 (1, 0) 34 = R (158 + 6 * k) → gI h1 (1, 0) 35 = sGoalOf R (158 + 6 * k) → gI h1 (1, 0) 36 = 1 + R (13 + 6 * R (158 + 6 * k + 1) + 2) → gI h1 (1, 0) 37 = R (158 + 6 * k + 3) → gI h1 (1, 0) 38 = R (158 + 6 * k + 4) → gI h1 (1, 0) 39 = 0 → gI h1 (1, 0) 41 = gI h (1, 0) 41 → gI h1 (1, 0) 42 = gI h (1, 0) 42 → SS Γ 87 [some (zR (some (1, 0))), some (zI (158 + 6 * k)), some (zI (13 + 6 * R (158 + 6 * k + 1))), none] [] h1 0 0 := by
    intro h1 hS1 r1 e34 e35 e36 e37 e38 e39 e41 e42
    have T1 := T.same hS1 (B' := B) (by rw [r1]; exact hok)
    have W : Wk h1 R b mu (1 + R (13 + 6 * R (158 + 6 * k + 1) + 2)) (R (158 + 6 * k)) (sGoalOf R (158 + 6 * k)) (R (158 + 6 * k + 3)) (R (158 + 6 * k + 4)) (hs (R (13 + 6 * R (158 + 6 * k + 1) + 2))) (sCrowd R) :=
      Wk.mk T1.tw r1 T1.b28 T1.b29 e34 e35 e36 e37 e38 (Or.inr ⟨e39, rfl⟩) hw9 (by omega) (T1.ts _ hws.2.2.1.1 hws.2.2.1.2) hk.1 hh.1 hk.2.2.2.2.1 T.hb (fun c c1 c2 => by have := hok.cl c c1 (by omega); exact ⟨this.2.2.1, this.2.2.2.1, this.2.2.2.2.2.1⟩) hm
    have hTw := T1.tw
    have hwr := sWay_r hok b mu hs k1 k2
    have hgo : sChoose R b mu (hs (R (13 + 6 * R (158 + 6 * k + 1) + 2))) (R (158 + 6 * k)) (sGoalOf R (158 + 6 * k)) (R (158 + 6 * k + 3)) (R (158 + 6 * k + 4)) (sCrowd R) = sWay R b mu hs (158 + 6 * k) := rfl
    have hstep : sStep R b mu tx0 hs (158 + 6 * k) = if 0 ≤ sWay R b mu hs (158 + 6 * k) then sTread (upR (upR (upR (upR R (158 + 6 * k + 2) (R (158 + 6 * k + 2) + 1)) (158 + 6 * k + 3) (sWay R b mu hs (158 + 6 * k))) (158 + 6 * k + 4) (R (158 + 6 * k))) (158 + 6 * k) (sBeside R (R (158 + 6 * k)) (sWay R b mu hs (158 + 6 * k)))) b mu tx0 (sBeside R (R (158 + 6 * k)) (sWay R b mu hs (158 + 6 * k))) else upR R (158 + 6 * k + 2) (R (158 + 6 * k + 2) + 1) := rfl
    generalize sWay R b mu hs (158 + 6 * k) = dd at hwr hgo hstep
    refine zs_aload_n hΓ dX5_goes_87 (pc' := 88) rfl rfl rfl ?_
    refine zs_callVI hΓ dX5_goes_88 (pc' := 91) rfl kX5_414 (con_X5_choose l W) (tw_t hTw) rfl rfl rfl (Nat.le_of_ble_eq_true rfl) (by omega) (by decide) (by omega) (by omega) (fun x_88 h_88 q_88 k_88 => ?_) (fun _ _ q _ => False.elim q)
    obtain ⟨rfl, q9⟩ := q_88
    rw [hgo]
    have W2 := W.same q9
    have hTw := W2.tw
    have hS2 : Same cW h h_88 := hS1.tr (q9.mono fun x j z => Or.inr (Or.inl z))
    have q41 : gI h_88 (1, 0) 41 = gI h (1, 0) 41 := (q9.2.2 _ _ (n1 (by decide))).trans e41
    have q42 : gI h_88 (1, 0) 42 = gI h (1, 0) 42 := (q9.2.2 _ _ (n1 (by decide))).trans e42
    refine zs_istore_n hΓ dX5_goes_91 (pc' := 92) rfl (L' := [some (zR _), some (zI _), some (zI _), some (zI _)]) rfl (by decide) rfl rfl ?_
    refine zs_aload_n hΓ dX5_goes_92 (pc' := 93) rfl rfl rfl ?_
    refine zs_getrE hΓ dX5_goes_93 (pc' := 96) rfl fX5_30 (i9 := 5) rfl rfl (tw_t hTw) (tw_p5 hTw) ?_
    refine zs_iload_n hΓ dX5_goes_96 (pc' := 97) rfl rfl rfl ?_
    refine zs_iconst hΓ dX5_goes_97 (pc' := 98) rfl ⟨by decide, by decide⟩ ?_
    refine zs_iadd hΓ dX5_goes_98 (pc' := 99) rfl (by unfold inI; omega) ?_
    refine zs_dup2 hΓ dX5_goes_99 (pc' := 100) rfl  ?_
    refine zs_iald hΓ dX5_goes_100 (pc' := 101) rfl (tw_a5 hTw) (by omega) (by omega) ?_
    refine zs_eqI (congrFun W2.r _) ?_
    refine zs_iconst hΓ dX5_goes_101 (pc' := 102) rfl ⟨by decide, by decide⟩ ?_
    refine zs_iadd hΓ dX5_goes_102 (pc' := 103) rfl (by unfold inI; omega) ?_
    refine zs_iast hΓ dX5_goes_103 (pc' := 104) rfl (tw_a5 hTw) (show (0 : Int) ≤ 1 by decide) (by omega) (by omega) ?_
    refine zs_iload_n hΓ dX5_goes_104 (pc' := 105) rfl rfl rfl ?_
    refine zs_iflt hΓ dX5_goes_105 (tgt := 154) (by decide) (pc' := 108) rfl (fun c_105 => ?_) (fun c_105 => ?_)
    · exact mid3 _ _ hTw (by rw [gI_up, W2.r, hstep, if_neg (by omega)]) (by rw [gI_ot _ _ _ (n1 (by decide))]; exact W2.e35) (TkR.small (hS2.set (Or.inl rfl)) (fun j hj => by rw [gI_up, upR_n _ _ (by omega), W2.r, hR]) (by rw [gI_ot _ _ _ (n1 (by decide))]; exact q42) (by rw [gI_up, upR_n _ _ (by omega), W2.r, hR]; exact Int.le_refl _) (fun y1 y2 => by rw [gI_up, upR_n _ _ (by omega), W2.r, hR, gI_ot _ _ _ (n1 (by decide)), q41]; omega))
    · refine zs_aload_n hΓ dX5_goes_108 (pc' := 109) rfl rfl rfl ?_
      refine zs_getrE hΓ dX5_goes_109 (pc' := 112) rfl fX5_30 (i9 := 5) rfl rfl (tw_t hTw) (tw_p5 hTw) ?_
      refine zs_iload_n hΓ dX5_goes_112 (pc' := 113) rfl rfl rfl ?_
      refine zs_iconst hΓ dX5_goes_113 (pc' := 114) rfl ⟨by decide, by decide⟩ ?_
      refine zs_iadd hΓ dX5_goes_114 (pc' := 115) rfl (by unfold inI; omega) ?_
      refine zs_iload_n hΓ dX5_goes_115 (pc' := 116) rfl rfl rfl ?_
      refine zs_iast hΓ dX5_goes_116 (pc' := 117) rfl (tw_a5 hTw) (show (0 : Int) ≤ 1 by decide) (by omega) (by omega) ?_
      refine zs_aload_n hΓ dX5_goes_117 (pc' := 118) rfl rfl rfl ?_
      refine zs_getrE hΓ dX5_goes_118 (pc' := 121) rfl fX5_30 (i9 := 5) rfl rfl (tw_t hTw) (tw_p5 hTw) ?_
      refine zs_iload_n hΓ dX5_goes_121 (pc' := 122) rfl rfl rfl ?_
      refine zs_iconst hΓ dX5_goes_122 (pc' := 123) rfl ⟨by decide, by decide⟩ ?_
      refine zs_iadd hΓ dX5_goes_123 (pc' := 124) rfl (by unfold inI; omega) ?_
      refine zs_aload_n hΓ dX5_goes_124 (pc' := 125) rfl rfl rfl ?_
      refine zs_geti hΓ dX5_goes_125 (pc' := 128) rfl fX5_359 (i9 := 34) rfl rfl (tw_t hTw) ?_
      refine zs_eqI (y := R (158 + 6 * k)) (by rw [gI_ot _ _ _ (n1 (by decide)), gI_ot _ _ _ (n1 (by decide))]; exact W2.e34) ?_
      refine zs_iast hΓ dX5_goes_128 (pc' := 129) rfl (tw_a5 hTw) (show (0 : Int) ≤ 1 by decide) (by omega) (by omega) ?_
      refine zs_nm (fun h3 e3 => ?_)
      have hd8 := hwr.resolve_left (by omega)
      have hTw : TwT h3 := by rw [e3]; exact hTw
      have r3 : gI h3 (1, 5) = upR (upR (upR R (158 + 6 * k + 2) (R (158 + 6 * k + 2) + 1)) (158 + 6 * k + 3) dd) (158 + 6 * k + 4) (R (158 + 6 * k)) := by rw [e3, gI_up, gI_up, gI_up, W2.r]
      have g3 : ∀ j, j ≠ 158 + 6 * k + 2 → j ≠ 158 + 6 * k + 3 → j ≠ 158 + 6 * k + 4 → gI h3 (1, 5) j = R j := fun j j1 j2 j3 => by rw [r3, upR_n _ _ j3, upR_n _ _ j2, upR_n _ _ j1]
      have g0 : gI h3 (1, 5) 0 = R 0 := g3 0 (by omega) (by omega) (by omega)
      have g1 : gI h3 (1, 5) 1 = R 1 := g3 1 (by omega) (by omega) (by omega)
      have gb : sBeside (gI h3 (1, 5)) (R (158 + 6 * k)) dd = sBeside R (R (158 + 6 * k)) dd := by unfold sBeside; rw [g0, g1]
      have hS3 : Same cW h h3 := by rw [e3]; exact ((hS2.set (Or.inl rfl)).set (Or.inl rfl)).set (Or.inl rfl)
      have s3 : Same (fun a _ => a = (1, 5)) h_88 h3 := by rw [e3]; exact (((Same.rf _ _).set rfl).set rfl).set rfl
      refine zs_aload_n hΓ dX5_goes_129 (pc' := 130) rfl rfl rfl ?_
      refine zs_getrE hΓ dX5_goes_130 (pc' := 133) rfl fX5_30 (i9 := 5) rfl rfl (tw_t hTw) (tw_p5 hTw) ?_
      refine zs_iload_n hΓ dX5_goes_133 (pc' := 134) rfl rfl rfl ?_
      refine zs_aload_n hΓ dX5_goes_134 (pc' := 135) rfl rfl rfl ?_
      refine zs_aload_n hΓ dX5_goes_135 (pc' := 136) rfl rfl rfl ?_
      refine zs_geti hΓ dX5_goes_136 (pc' := 139) rfl fX5_359 (i9 := 34) rfl rfl (tw_t hTw) ?_
      refine zs_eqI ((s3.2.2 _ _ (n1 (by decide))).trans W2.e34) ?_
      refine zs_iload_n hΓ dX5_goes_139 (pc' := 140) rfl rfl rfl ?_
      refine zs_callVIP hΓ dX5_goes_140 (pc' := 143) rfl kX5_380 (con_X5_beside l hTw (by rw [RW, g0, g1]; exact hw9) (R (158 + 6 * k)) dd (by rw [g0, g1]; exact hk.1) hd8.1) (tw_t hTw) rfl rfl rfl (Nat.le_of_ble_eq_true rfl) (by omega) (by decide) (by omega) (by omega) ?_ (fun _ _ q _ => False.elim q)
      refine zs_eqI gb ?_
      refine zs_iast hΓ dX5_goes_143 (pc' := 144) rfl (tw_a5 hTw) (show (0 : Int) ≤ 1 by decide) (by omega) (by omega) ?_
      refine zs_nm (fun h4 e4 => ?_)
      have hTw : TwT h4 := by rw [e4]; exact hTw
      have r4 : gI h4 (1, 5) = upR (upR (upR (upR R (158 + 6 * k + 2) (R (158 + 6 * k + 2) + 1)) (158 + 6 * k + 3) dd) (158 + 6 * k + 4) (R (158 + 6 * k))) (158 + 6 * k) (sBeside R (R (158 + 6 * k)) dd) := by rw [e4, gI_up, r3]
      have g4 : ∀ j, j < 158 ∨ 518 ≤ j → gI h4 (1, 5) j = R j := fun j j1 => by rw [r4, upR_n _ _ (by omega), upR_n _ _ (by omega), upR_n _ _ (by omega), upR_n _ _ (by omega)]
      have hS4 : Same cW h h4 := by rw [e4]; exact hS3.set (Or.inl rfl)
      have s4 : Same (fun a _ => a = (1, 5)) h_88 h4 := by rw [e4]; exact s3.set rfl
      have T4 : TxR h4 0 tx0 := T.t0.same hS4 (fun k i k1 k2 => n0j (by omega) (by omega) (by omega))
      have b4 : gI h4 (1, 0) 28 = b := (hS4.2.2 _ _ (n00 (by decide))).trans T.b28
      have m4 : gI h4 (1, 0) 29 = mu := (hS4.2.2 _ _ (n00 (by decide))).trans T.b29
      have q41 : gI h4 (1, 0) 41 = gI h (1, 0) 41 := (s4.2.2 _ _ (n1 (by decide))).trans q41
      have q42 : gI h4 (1, 0) 42 = gI h (1, 0) 42 := (s4.2.2 _ _ (n1 (by decide))).trans q42
      have q40 : gI h4 (1, 0) 40 = gI h (1, 0) 40 := hS4.2.2 _ _ (n00 (by decide))
      have q35 : gI h4 (1, 0) 35 = sGoalOf R (158 + 6 * k) := (s4.2.2 _ _ (n1 (by decide))).trans W2.e35
      refine zs_aload_n hΓ dX5_goes_144 (pc' := 145) rfl rfl rfl ?_
      refine zs_aload_n hΓ dX5_goes_145 (pc' := 146) rfl rfl rfl ?_
      refine zs_getrE hΓ dX5_goes_146 (pc' := 149) rfl fX5_30 (i9 := 5) rfl rfl (tw_t hTw) (tw_p5 hTw) ?_
      refine zs_iload_n hΓ dX5_goes_149 (pc' := 150) rfl rfl rfl ?_
      refine zs_iald hΓ dX5_goes_150 (pc' := 151) rfl (tw_a5 hTw) (by omega) (by omega) ?_
      refine zs_eqI (y := sBeside R (R (158 + 6 * k)) dd) (by rw [r4, upR_s]) ?_
      refine zs_callVV hΓ dX5_goes_151 (pc' := 154) rfl kX5_417 (con_X5_tread l (B := B) hTw (by rw [RW, g4 0 (by decide), g4 1 (by decide)]; exact hw9) (hok.cl.congr (fun j hj => g4 j (by omega))) (by omega) b4 m4 T4 _ (by rw [g4 0 (by decide), g4 1 (by decide)]; exact hd8.2)) (tw_t hTw) rfl rfl rfl (Nat.le_of_ble_eq_true rfl) (by omega) (by decide) (by omega) (by omega) (fun h_151 q_151 k_151 => ?_) (fun _ _ q _ => False.elim q)
      obtain ⟨p1, p2, p3⟩ := q_151
      have hTw := hTw.same p1
      have lo5 : ∀ j, j < 522 → gI h_151 (1, 5) j = gI h4 (1, 5) j := fun j hj => by rw [p2]; exact sTread_lo hd8.2.1 hj
      have z41 : gI h_151 (1, 0) 41 = gI h (1, 0) 41 := (p1.2.2 _ _ (by rintro (z | z | ⟨-, z⟩); exact n1 (by decide) z; exact n1 (by decide) z; exact absurd z (by decide))).trans q41
      exact mid3 _ _ hTw (by rw [p2, r4, hstep, if_pos hd8.1.1]) ((p1.2.2 _ _ (by rintro (z | z | ⟨-, z⟩); exact n1 (by decide) z; exact n1 (by decide) z; exact absurd z (by decide))).trans q35) (TkR.mk (hS4.tr (p1.mono (by rintro x j (z | z | ⟨z, z'⟩); exact Or.inl z; exact Or.inr (Or.inl z); exact Or.inr (Or.inr ⟨z, Or.inr (Or.inr z')⟩)))) (fun y1 y2 => by rw [lo5 _ (by decide), g4 _ (by decide), hR, z41]; omega) (by rw [lo5 _ (by decide), g4 _ (by decide), hR]; exact Int.le_refl _) (fun c hc => by rw [p2, sTread_cel (by decide), if_neg (by omega), if_neg (by omega), show cel (gI h4 (1, 5)) c 6 = cel R c 6 from g4 _ (by omega), show cel (gI h4 (1, 5)) (sBeside R (R (158 + 6 * k)) dd) 6 = cel R (sBeside R (R (158 + 6 * k)) dd) 6 from g4 _ (by omega), hR]; by_cases e : c = sBeside R (R (158 + 6 * k)) dd; rw [if_pos ⟨e, rfl⟩, e]; omega; rw [if_neg (fun z => e z.1)]; exact Int.le_refl _) (fun e => by
        rw [p3 (by rw [q42]; exact e), q42, q40, hR]
        apply iB_iff
        apply or_congr Iff.rfl
        rw [p2, sTread_cel (by decide), if_neg (by omega), if_neg (by omega), show cel (gI h4 (1, 5)) (sBeside R (R (158 + 6 * k)) dd) 6 = cel R (sBeside R (R (158 + 6 * k)) dd) 6 from g4 _ (by omega)]
        by_cases e : gI h (1, 0) 40 = sBeside R (R (158 + 6 * k)) dd
        · rw [if_pos ⟨e, rfl⟩, e]; exact ⟨fun _ => ⟨hd8.2.1, by omega⟩, fun _ => rfl⟩
        · rw [if_neg (fun z => e z.1)]; exact ⟨fun z => absurd z.symm e, fun z => by have h8 : cel (gI h4 (1, 5)) (gI h (1, 0) 40) 6 = cel R (gI h (1, 0) 40) 6 := g4 _ (by omega); omega⟩))
  refine zs_bipush hΓ dX5_goes_0 (pc' := 2) rfl ⟨by decide, by decide⟩ ?_
  refine zs_bipush hΓ dX5_goes_2 (pc' := 4) rfl ⟨by decide, by decide⟩ ?_
  refine zs_aload_n hΓ dX5_goes_4 (pc' := 5) rfl rfl rfl ?_
  refine zs_getrE hΓ dX5_goes_5 (pc' := 8) rfl fX5_30 (i9 := 5) rfl rfl (tw_t hTw) (tw_p5 hTw) ?_
  refine zs_iload_n hΓ dX5_goes_8 (pc' := 9) rfl rfl rfl ?_
  refine zs_iconst hΓ dX5_goes_9 (pc' := 10) rfl ⟨by decide, by decide⟩ ?_
  refine zs_iadd hΓ dX5_goes_10 (pc' := 11) rfl (by unfold inI; omega) ?_
  refine zs_iald hΓ dX5_goes_11 (pc' := 12) rfl (tw_a5 hTw) (by omega) (by omega) ?_
  refine zs_eqI (congrFun hR _) ?_
  refine zs_imul hΓ dX5_goes_12 (pc' := 13) rfl (by unfold inI; omega) ?_
  refine zs_iadd hΓ dX5_goes_13 (pc' := 14) rfl (by unfold inI; omega) ?_
  refine zs_istore_n hΓ dX5_goes_14 (pc' := 15) rfl (L' := [some (zR _), some (zI _), some (zI _), none]) rfl (by decide) rfl rfl ?_
  refine zs_aload_n hΓ dX5_goes_15 (pc' := 16) rfl rfl rfl ?_
  refine zs_aload_n hΓ dX5_goes_16 (pc' := 17) rfl rfl rfl ?_
  refine zs_getrE hΓ dX5_goes_17 (pc' := 20) rfl fX5_30 (i9 := 5) rfl rfl (tw_t hTw) (tw_p5 hTw) ?_
  refine zs_iload_n hΓ dX5_goes_20 (pc' := 21) rfl rfl rfl ?_
  refine zs_iald hΓ dX5_goes_21 (pc' := 22) rfl (tw_a5 hTw) (by omega) (by omega) ?_
  refine zs_eqI (congrFun hR _) ?_
  refine zs_puti hΓ dX5_goes_22 (pc' := 25) rfl fX5_359 (fun q hq => (by cases hq; exact Or.inl rfl)) (i9 := 34) rfl trivial (tw_t hTw) (show (0 : Int) ≤ 1 by decide) ?_
  refine zs_aload_n hΓ dX5_goes_25 (pc' := 26) rfl rfl rfl ?_
  refine zs_aload_n hΓ dX5_goes_26 (pc' := 27) rfl rfl rfl ?_
  refine zs_getrE hΓ dX5_goes_27 (pc' := 30) rfl fX5_30 (i9 := 5) rfl rfl (tw_t hTw) (tw_p5 hTw) ?_
  refine zs_iconst hΓ dX5_goes_30 (pc' := 31) rfl ⟨by decide, by decide⟩ ?_
  refine zs_aload_n hΓ dX5_goes_31 (pc' := 32) rfl rfl rfl ?_
  refine zs_getrE hΓ dX5_goes_32 (pc' := 35) rfl fX5_30 (i9 := 5) rfl rfl (tw_t hTw) (tw_p5 hTw) ?_
  refine zs_iload_n hΓ dX5_goes_35 (pc' := 36) rfl rfl rfl ?_
  refine zs_iconst hΓ dX5_goes_36 (pc' := 37) rfl ⟨by decide, by decide⟩ ?_
  refine zs_iadd hΓ dX5_goes_37 (pc' := 38) rfl (by unfold inI; omega) ?_
  refine zs_iald hΓ dX5_goes_38 (pc' := 39) rfl (tw_a5 hTw) (by omega) (by omega) ?_
  refine zs_eqI (y := R (13 + 6 * R (158 + 6 * k + 1) + 1)) (by rw [gI_ot _ _ _ (n1 (by decide))]; exact congrFun hR _) ?_
  refine zs_iadd hΓ dX5_goes_39 (pc' := 40) rfl (by unfold inI; omega) ?_
  refine zs_iald hΓ dX5_goes_40 (pc' := 41) rfl (tw_a5 hTw) (by omega) (by omega) ?_
  refine zs_eqI (y := sGoalOf R (158 + 6 * k)) (by rw [gI_ot _ _ _ (n1 (by decide))]; exact congrFun hR _) ?_
  refine zs_puti hΓ dX5_goes_41 (pc' := 44) rfl fX5_383 (fun q hq => (by cases hq; exact Or.inl rfl)) (i9 := 35) rfl trivial (tw_t hTw) (show (0 : Int) ≤ 1 by decide) ?_
  refine zs_aload_n hΓ dX5_goes_44 (pc' := 45) rfl rfl rfl ?_
  refine zs_iconst hΓ dX5_goes_45 (pc' := 46) rfl ⟨by decide, by decide⟩ ?_
  refine zs_aload_n hΓ dX5_goes_46 (pc' := 47) rfl rfl rfl ?_
  refine zs_getrE hΓ dX5_goes_47 (pc' := 50) rfl fX5_30 (i9 := 5) rfl rfl (tw_t hTw) (tw_p5 hTw) ?_
  refine zs_iload_n hΓ dX5_goes_50 (pc' := 51) rfl rfl rfl ?_
  refine zs_iconst hΓ dX5_goes_51 (pc' := 52) rfl ⟨by decide, by decide⟩ ?_
  refine zs_iadd hΓ dX5_goes_52 (pc' := 53) rfl (by unfold inI; omega) ?_
  refine zs_iald hΓ dX5_goes_53 (pc' := 54) rfl (tw_a5 hTw) (by omega) (by omega) ?_
  refine zs_eqI (y := R (13 + 6 * R (158 + 6 * k + 1) + 2)) (by (repeat rw [gI_ot _ _ _ (n1 (by decide))]); exact congrFun hR _) ?_
  refine zs_iadd hΓ dX5_goes_54 (pc' := 55) rfl (by unfold inI; omega) ?_
  refine zs_puti hΓ dX5_goes_55 (pc' := 58) rfl fX5_378 (fun q hq => (by cases hq; exact Or.inl rfl)) (i9 := 36) rfl trivial (tw_t hTw) (show (0 : Int) ≤ 1 by decide) ?_
  refine zs_aload_n hΓ dX5_goes_58 (pc' := 59) rfl rfl rfl ?_
  refine zs_aload_n hΓ dX5_goes_59 (pc' := 60) rfl rfl rfl ?_
  refine zs_getrE hΓ dX5_goes_60 (pc' := 63) rfl fX5_30 (i9 := 5) rfl rfl (tw_t hTw) (tw_p5 hTw) ?_
  refine zs_iload_n hΓ dX5_goes_63 (pc' := 64) rfl rfl rfl ?_
  refine zs_iconst hΓ dX5_goes_64 (pc' := 65) rfl ⟨by decide, by decide⟩ ?_
  refine zs_iadd hΓ dX5_goes_65 (pc' := 66) rfl (by unfold inI; omega) ?_
  refine zs_iald hΓ dX5_goes_66 (pc' := 67) rfl (tw_a5 hTw) (by omega) (by omega) ?_
  refine zs_eqI (y := R (158 + 6 * k + 3)) (by (repeat rw [gI_ot _ _ _ (n1 (by decide))]); exact congrFun hR _) ?_
  refine zs_puti hΓ dX5_goes_67 (pc' := 70) rfl fX5_369 (fun q hq => (by cases hq; exact Or.inl rfl)) (i9 := 37) rfl trivial (tw_t hTw) (show (0 : Int) ≤ 1 by decide) ?_
  refine zs_aload_n hΓ dX5_goes_70 (pc' := 71) rfl rfl rfl ?_
  refine zs_aload_n hΓ dX5_goes_71 (pc' := 72) rfl rfl rfl ?_
  refine zs_getrE hΓ dX5_goes_72 (pc' := 75) rfl fX5_30 (i9 := 5) rfl rfl (tw_t hTw) (tw_p5 hTw) ?_
  refine zs_iload_n hΓ dX5_goes_75 (pc' := 76) rfl rfl rfl ?_
  refine zs_iconst hΓ dX5_goes_76 (pc' := 77) rfl ⟨by decide, by decide⟩ ?_
  refine zs_iadd hΓ dX5_goes_77 (pc' := 78) rfl (by unfold inI; omega) ?_
  refine zs_iald hΓ dX5_goes_78 (pc' := 79) rfl (tw_a5 hTw) (by omega) (by omega) ?_
  refine zs_eqI (y := R (158 + 6 * k + 4)) (by (repeat rw [gI_ot _ _ _ (n1 (by decide))]); exact congrFun hR _) ?_
  refine zs_puti hΓ dX5_goes_79 (pc' := 82) rfl fX5_372 (fun q hq => (by cases hq; exact Or.inl rfl)) (i9 := 38) rfl trivial (tw_t hTw) (show (0 : Int) ≤ 1 by decide) ?_
  refine zs_aload_n hΓ dX5_goes_82 (pc' := 83) rfl rfl rfl ?_
  refine zs_iconst hΓ dX5_goes_83 (pc' := 84) rfl ⟨by decide, by decide⟩ ?_
  refine zs_puti hΓ dX5_goes_84 (pc' := 87) rfl fX5_362 (fun q hq => (by cases hq; exact Or.inl rfl)) (i9 := 39) rfl (by show _ ∨ _; omega) (tw_t hTw) (show (0 : Int) ≤ 1 by decide) ?_
  exact mid _ ((((((Same.rf _ _).set (Or.inr (Or.inr ⟨rfl, by decide⟩))).set (Or.inr (Or.inr ⟨rfl, by decide⟩))).set (Or.inr (Or.inr ⟨rfl, by decide⟩))).set (Or.inr (Or.inr ⟨rfl, by decide⟩))).set (Or.inr (Or.inr ⟨rfl, by decide⟩)) |>.set (Or.inr (Or.inr ⟨rfl, by decide⟩))) (by (repeat rw [gI_ot _ _ _ (n1 (by decide))]); exact hR) (by simp [gI_setI]) (by simp [gI_setI]) (by simp [gI_setI]) (by simp [gI_setI]) (by simp [gI_setI]) (by simp [gI_setI]) (by simp [gI_setI]) (by simp [gI_setI])
