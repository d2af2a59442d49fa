/-! THE TWIN'S SHAPE: its object (1, 0), its arrays (1, field) -/
set_option maxRecDepth 100000
def TwT (h : zH) : Prop := gT h (1, 0) = some (4, 63) ∧ (gT h (1, 1) = some (102, 440) ∧ gP h (1, 0) 1 = some (1, 1)) ∧ (gT h (1, 5) = some (100, 2314) ∧ gP h (1, 0) 5 = some (1, 5)) ∧ (gT h (1, 6) = some (100, 6942) ∧ gP h (1, 0) 6 = some (1, 6)) ∧ (gT h (1, 7) = some (100, 2314) ∧ gP h (1, 0) 7 = some (1, 7)) ∧ (gT h (1, 8) = some (101, 3) ∧ gP h (1, 0) 8 = some (1, 8)) ∧ (gT h (1, 9) = some (100, 8) ∧ gP h (1, 0) 9 = some (1, 9)) ∧ (gT h (1, 10) = some (100, 128) ∧ gP h (1, 0) 10 = some (1, 10)) ∧ (gT h (1, 11) = some (100, 128) ∧ gP h (1, 0) 11 = some (1, 11)) ∧ (gT h (1, 12) = some (100, 128) ∧ gP h (1, 0) 12 = some (1, 12)) ∧ (gT h (1, 13) = some (100, 128) ∧ gP h (1, 0) 13 = some (1, 13)) ∧ (gT h (1, 14) = some (100, 128) ∧ gP h (1, 0) 14 = some (1, 14)) ∧ (gT h (1, 15) = some (100, 1600) ∧ gP h (1, 0) 15 = some (1, 15)) ∧ (gT h (1, 16) = some (100, 1600) ∧ gP h (1, 0) 16 = some (1, 16)) ∧ (gT h (1, 17) = some (100, 1600) ∧ gP h (1, 0) 17 = some (1, 17)) ∧ (gT h (1, 18) = some (100, 100) ∧ gP h (1, 0) 18 = some (1, 18)) ∧ (gT h (1, 33) = some (101, 60) ∧ gP h (1, 0) 33 = some (1, 33)) ∧ (gT h (1, 43) = some (101, 256) ∧ gP h (1, 0) 43 = some (1, 43)) ∧ (gT h (1, 44) = some (101, 256) ∧ gP h (1, 0) 44 = some (1, 44)) ∧ (gT h (1, 45) = some (101, 256) ∧ gP h (1, 0) 45 = some (1, 45)) ∧ (gT h (1, 46) = some (101, 256) ∧ gP h (1, 0) 46 = some (1, 46)) ∧ (gT h (1, 47) = some (100, 16384) ∧ gP h (1, 0) 47 = some (1, 47)) ∧ (gT h (1, 48) = some (100, 256) ∧ gP h (1, 0) 48 = some (1, 48)) ∧ (gT h (1, 52) = some (100, 2) ∧ gP h (1, 0) 52 = some (1, 52)) ∧ (gT h (1, 54) = some (100, 201) ∧ gP h (1, 0) 54 = some (1, 54)) ∧ (gT h (1, 55) = some (100, 201) ∧ gP h (1, 0) 55 = some (1, 55)) ∧ (gT h (1, 56) = some (100, 1280) ∧ gP h (1, 0) 56 = some (1, 56)) ∧ (gT h (1, 57) = some (100, 5) ∧ gP h (1, 0) 57 = some (1, 57)) ∧ (gT h (1, 58) = some (100, 5) ∧ gP h (1, 0) 58 = some (1, 58)) ∧ (gT h (1, 59) = some (100, 5) ∧ gP h (1, 0) 59 = some (1, 59))
theorem tw_t {h : zH} (hT : TwT h) : gT h (1, 0) = some (4, 63) := hT.1
theorem tw_a1 {h : zH} (hT : TwT h) : gT h (1, 1) = some (102, 440) := hT.2.1.1
theorem tw_p1 {h : zH} (hT : TwT h) : gP h (1, 0) 1 = some (1, 1) := hT.2.1.2
theorem tw_a5 {h : zH} (hT : TwT h) : gT h (1, 5) = some (100, 2314) := hT.2.2.1.1
theorem tw_p5 {h : zH} (hT : TwT h) : gP h (1, 0) 5 = some (1, 5) := hT.2.2.1.2
theorem tw_a6 {h : zH} (hT : TwT h) : gT h (1, 6) = some (100, 6942) := hT.2.2.2.1.1
theorem tw_p6 {h : zH} (hT : TwT h) : gP h (1, 0) 6 = some (1, 6) := hT.2.2.2.1.2
theorem tw_a7 {h : zH} (hT : TwT h) : gT h (1, 7) = some (100, 2314) := hT.2.2.2.2.1.1
theorem tw_p7 {h : zH} (hT : TwT h) : gP h (1, 0) 7 = some (1, 7) := hT.2.2.2.2.1.2
theorem tw_a8 {h : zH} (hT : TwT h) : gT h (1, 8) = some (101, 3) := hT.2.2.2.2.2.1.1
theorem tw_p8 {h : zH} (hT : TwT h) : gP h (1, 0) 8 = some (1, 8) := hT.2.2.2.2.2.1.2
theorem tw_a9 {h : zH} (hT : TwT h) : gT h (1, 9) = some (100, 8) := hT.2.2.2.2.2.2.1.1
theorem tw_p9 {h : zH} (hT : TwT h) : gP h (1, 0) 9 = some (1, 9) := hT.2.2.2.2.2.2.1.2
theorem tw_a10 {h : zH} (hT : TwT h) : gT h (1, 10) = some (100, 128) := hT.2.2.2.2.2.2.2.1.1
theorem tw_p10 {h : zH} (hT : TwT h) : gP h (1, 0) 10 = some (1, 10) := hT.2.2.2.2.2.2.2.1.2
theorem tw_a11 {h : zH} (hT : TwT h) : gT h (1, 11) = some (100, 128) := hT.2.2.2.2.2.2.2.2.1.1
theorem tw_p11 {h : zH} (hT : TwT h) : gP h (1, 0) 11 = some (1, 11) := hT.2.2.2.2.2.2.2.2.1.2
theorem tw_a12 {h : zH} (hT : TwT h) : gT h (1, 12) = some (100, 128) := hT.2.2.2.2.2.2.2.2.2.1.1
theorem tw_p12 {h : zH} (hT : TwT h) : gP h (1, 0) 12 = some (1, 12) := hT.2.2.2.2.2.2.2.2.2.1.2
theorem tw_a13 {h : zH} (hT : TwT h) : gT h (1, 13) = some (100, 128) := hT.2.2.2.2.2.2.2.2.2.2.1.1
theorem tw_p13 {h : zH} (hT : TwT h) : gP h (1, 0) 13 = some (1, 13) := hT.2.2.2.2.2.2.2.2.2.2.1.2
theorem tw_a14 {h : zH} (hT : TwT h) : gT h (1, 14) = some (100, 128) := hT.2.2.2.2.2.2.2.2.2.2.2.1.1
theorem tw_p14 {h : zH} (hT : TwT h) : gP h (1, 0) 14 = some (1, 14) := hT.2.2.2.2.2.2.2.2.2.2.2.1.2
theorem tw_a15 {h : zH} (hT : TwT h) : gT h (1, 15) = some (100, 1600) := hT.2.2.2.2.2.2.2.2.2.2.2.2.1.1
theorem tw_p15 {h : zH} (hT : TwT h) : gP h (1, 0) 15 = some (1, 15) := hT.2.2.2.2.2.2.2.2.2.2.2.2.1.2
theorem tw_a16 {h : zH} (hT : TwT h) : gT h (1, 16) = some (100, 1600) := hT.2.2.2.2.2.2.2.2.2.2.2.2.2.1.1
theorem tw_p16 {h : zH} (hT : TwT h) : gP h (1, 0) 16 = some (1, 16) := hT.2.2.2.2.2.2.2.2.2.2.2.2.2.1.2
theorem tw_a17 {h : zH} (hT : TwT h) : gT h (1, 17) = some (100, 1600) := hT.2.2.2.2.2.2.2.2.2.2.2.2.2.2.1.1
theorem tw_p17 {h : zH} (hT : TwT h) : gP h (1, 0) 17 = some (1, 17) := hT.2.2.2.2.2.2.2.2.2.2.2.2.2.2.1.2
theorem tw_a18 {h : zH} (hT : TwT h) : gT h (1, 18) = some (100, 100) := hT.2.2.2.2.2.2.2.2.2.2.2.2.2.2.2.1.1
theorem tw_p18 {h : zH} (hT : TwT h) : gP h (1, 0) 18 = some (1, 18) := hT.2.2.2.2.2.2.2.2.2.2.2.2.2.2.2.1.2
theorem tw_a33 {h : zH} (hT : TwT h) : gT h (1, 33) = some (101, 60) := hT.2.2.2.2.2.2.2.2.2.2.2.2.2.2.2.2.1.1
theorem tw_p33 {h : zH} (hT : TwT h) : gP h (1, 0) 33 = some (1, 33) := hT.2.2.2.2.2.2.2.2.2.2.2.2.2.2.2.2.1.2
theorem tw_a43 {h : zH} (hT : TwT h) : gT h (1, 43) = some (101, 256) := hT.2.2.2.2.2.2.2.2.2.2.2.2.2.2.2.2.2.1.1
theorem tw_p43 {h : zH} (hT : TwT h) : gP h (1, 0) 43 = some (1, 43) := hT.2.2.2.2.2.2.2.2.2.2.2.2.2.2.2.2.2.1.2
theorem tw_a44 {h : zH} (hT : TwT h) : gT h (1, 44) = some (101, 256) := hT.2.2.2.2.2.2.2.2.2.2.2.2.2.2.2.2.2.2.1.1
theorem tw_p44 {h : zH} (hT : TwT h) : gP h (1, 0) 44 = some (1, 44) := hT.2.2.2.2.2.2.2.2.2.2.2.2.2.2.2.2.2.2.1.2
theorem tw_a45 {h : zH} (hT : TwT h) : gT h (1, 45) = some (101, 256) := hT.2.2.2.2.2.2.2.2.2.2.2.2.2.2.2.2.2.2.2.1.1
theorem tw_p45 {h : zH} (hT : TwT h) : gP h (1, 0) 45 = some (1, 45) := hT.2.2.2.2.2.2.2.2.2.2.2.2.2.2.2.2.2.2.2.1.2
theorem tw_a46 {h : zH} (hT : TwT h) : gT h (1, 46) = some (101, 256) := hT.2.2.2.2.2.2.2.2.2.2.2.2.2.2.2.2.2.2.2.2.1.1
theorem tw_p46 {h : zH} (hT : TwT h) : gP h (1, 0) 46 = some (1, 46) := hT.2.2.2.2.2.2.2.2.2.2.2.2.2.2.2.2.2.2.2.2.1.2
theorem tw_a47 {h : zH} (hT : TwT h) : gT h (1, 47) = some (100, 16384) := hT.2.2.2.2.2.2.2.2.2.2.2.2.2.2.2.2.2.2.2.2.2.1.1
theorem tw_p47 {h : zH} (hT : TwT h) : gP h (1, 0) 47 = some (1, 47) := hT.2.2.2.2.2.2.2.2.2.2.2.2.2.2.2.2.2.2.2.2.2.1.2
theorem tw_a48 {h : zH} (hT : TwT h) : gT h (1, 48) = some (100, 256) := hT.2.2.2.2.2.2.2.2.2.2.2.2.2.2.2.2.2.2.2.2.2.2.1.1
theorem tw_p48 {h : zH} (hT : TwT h) : gP h (1, 0) 48 = some (1, 48) := hT.2.2.2.2.2.2.2.2.2.2.2.2.2.2.2.2.2.2.2.2.2.2.1.2
theorem tw_a52 {h : zH} (hT : TwT h) : gT h (1, 52) = some (100, 2) := hT.2.2.2.2.2.2.2.2.2.2.2.2.2.2.2.2.2.2.2.2.2.2.2.1.1
theorem tw_p52 {h : zH} (hT : TwT h) : gP h (1, 0) 52 = some (1, 52) := hT.2.2.2.2.2.2.2.2.2.2.2.2.2.2.2.2.2.2.2.2.2.2.2.1.2
theorem tw_a54 {h : zH} (hT : TwT h) : gT h (1, 54) = some (100, 201) := hT.2.2.2.2.2.2.2.2.2.2.2.2.2.2.2.2.2.2.2.2.2.2.2.2.1.1
theorem tw_p54 {h : zH} (hT : TwT h) : gP h (1, 0) 54 = some (1, 54) := hT.2.2.2.2.2.2.2.2.2.2.2.2.2.2.2.2.2.2.2.2.2.2.2.2.1.2
theorem tw_a55 {h : zH} (hT : TwT h) : gT h (1, 55) = some (100, 201) := hT.2.2.2.2.2.2.2.2.2.2.2.2.2.2.2.2.2.2.2.2.2.2.2.2.2.1.1
theorem tw_p55 {h : zH} (hT : TwT h) : gP h (1, 0) 55 = some (1, 55) := hT.2.2.2.2.2.2.2.2.2.2.2.2.2.2.2.2.2.2.2.2.2.2.2.2.2.1.2
theorem tw_a56 {h : zH} (hT : TwT h) : gT h (1, 56) = some (100, 1280) := hT.2.2.2.2.2.2.2.2.2.2.2.2.2.2.2.2.2.2.2.2.2.2.2.2.2.2.1.1
theorem tw_p56 {h : zH} (hT : TwT h) : gP h (1, 0) 56 = some (1, 56) := hT.2.2.2.2.2.2.2.2.2.2.2.2.2.2.2.2.2.2.2.2.2.2.2.2.2.2.1.2
theorem tw_a57 {h : zH} (hT : TwT h) : gT h (1, 57) = some (100, 5) := hT.2.2.2.2.2.2.2.2.2.2.2.2.2.2.2.2.2.2.2.2.2.2.2.2.2.2.2.1.1
theorem tw_p57 {h : zH} (hT : TwT h) : gP h (1, 0) 57 = some (1, 57) := hT.2.2.2.2.2.2.2.2.2.2.2.2.2.2.2.2.2.2.2.2.2.2.2.2.2.2.2.1.2
theorem tw_a58 {h : zH} (hT : TwT h) : gT h (1, 58) = some (100, 5) := hT.2.2.2.2.2.2.2.2.2.2.2.2.2.2.2.2.2.2.2.2.2.2.2.2.2.2.2.2.1.1
theorem tw_p58 {h : zH} (hT : TwT h) : gP h (1, 0) 58 = some (1, 58) := hT.2.2.2.2.2.2.2.2.2.2.2.2.2.2.2.2.2.2.2.2.2.2.2.2.2.2.2.2.1.2
theorem tw_a59 {h : zH} (hT : TwT h) : gT h (1, 59) = some (100, 5) := hT.2.2.2.2.2.2.2.2.2.2.2.2.2.2.2.2.2.2.2.2.2.2.2.2.2.2.2.2.2.1
theorem tw_p59 {h : zH} (hT : TwT h) : gP h (1, 0) 59 = some (1, 59) := hT.2.2.2.2.2.2.2.2.2.2.2.2.2.2.2.2.2.2.2.2.2.2.2.2.2.2.2.2.2.2
theorem TwT.same {C : zNm → Int → Prop} {h h' : zH} (hS : Same C h h') (hT : TwT h) : TwT h' := by
  obtain ⟨t, i, p⟩ := h
  obtain ⟨t', i', p'⟩ := h'
  obtain ⟨e1, e2, -⟩ := hS
  have e1 : t' = t := e1
  have e2 : p' = p := e2
  subst e1; subst e2
  exact hT
