/-! THE NAMED HEAP, part H: answers by their kind; known pointers; the same but for some places -/
set_option maxRecDepth 100000
abbrev rI (P : Int → zH → Prop) : Option zV → zH → Prop := fun r h => ∃ x : Int, r = some (zI x) ∧ P x h
abbrev rV (P : zH → Prop) : Option zV → zH → Prop := fun r h => r = none ∧ P h
abbrev rR (P : Option zNm → zH → Prop) : Option zV → zH → Prop := fun r h => ∃ x : Option zNm, r = some (zR x) ∧ P x h
theorem inI_of {x : Int} (h1 : -2147483648 ≤ x) (h2 : x ≤ 2147483647) : inI x := ⟨h1, h2⟩
section ZH
variable {Γ : zG} {l9 : Launch} {cc : ByteArray} {own nm : String} {nL : Nat} {ret : Option FieldType} {Q : Option zV → zH → Prop} {X : zNm → zH → Prop} {d mc ms : Nat} {pc pc' : Nat} {L : List (Option zV)} {st : List zV} {h : zH} {k n : Nat}
variable {a : zNm} {y : zMd} {kd N idx n9 d' mc' ms' : Nat} {As stk : List zV} {X' : zNm → zH → Prop}
theorem zs_callVI {P : Int → zH → Prop} (hΓ : Ctx Γ l9 cc own nm nL ret Q X d mc ms) (hd : decode cc pc = .ok (.invokevirtual idx, 3)) (hp : pc + 3 = pc') (hC : zCV own idx y n9) (hcon : Con l9 y d' mc' ms' (zR (some a) :: As) h (rI P) X') (ha : gT h a = some (kd, N)) (hr : (zCl[kd]?).map (fun q => q.1) = some y.1.cls) (hn : As.length = n9) (hst : stk = As.reverse ++ zR (some a) :: st) (hcat : zCs st ≤ 8) (hd' : d' < d) (hL : y.2.2.1 ≤ 81) (hk : k + mc' ≤ mc) (hs : n + ms' ≤ ms)
    (kk : ∀ x h', P x h' → zKeep h h' → SS Γ pc' L (zI x :: st) h' (k + mc') (n + ms')) (kx : ∀ a h', X' a h' → zKeep h h' → SX Γ pc L a h' (k + mc') (n + ms')) : SS Γ pc L stk h k n :=
  zs_callV hΓ hd hp hC hcon ha hr hn hst hcat hd' hL hk hs (fun r h' q kp => by obtain ⟨x, rfl, q⟩ := q; exact kk x h' q kp) kx
theorem zs_callVV {P : zH → Prop} (hΓ : Ctx Γ l9 cc own nm nL ret Q X d mc ms) (hd : decode cc pc = .ok (.invokevirtual idx, 3)) (hp : pc + 3 = pc') (hC : zCV own idx y n9) (hcon : Con l9 y d' mc' ms' (zR (some a) :: As) h (rV P) X') (ha : gT h a = some (kd, N)) (hr : (zCl[kd]?).map (fun q => q.1) = some y.1.cls) (hn : As.length = n9) (hst : stk = As.reverse ++ zR (some a) :: st) (hcat : zCs st ≤ 8) (hd' : d' < d) (hL : y.2.2.1 ≤ 81) (hk : k + mc' ≤ mc) (hs : n + ms' ≤ ms)
    (kk : ∀ h', P h' → zKeep h h' → SS Γ pc' L st h' (k + mc') (n + ms')) (kx : ∀ a h', X' a h' → zKeep h h' → SX Γ pc L a h' (k + mc') (n + ms')) : SS Γ pc L stk h k n :=
  zs_callV hΓ hd hp hC hcon ha hr hn hst hcat hd' hL hk hs (fun r h' q kp => by obtain ⟨rfl, q⟩ := q; exact kk h' q kp) kx
theorem zs_callVR {P : Option zNm → zH → Prop} (hΓ : Ctx Γ l9 cc own nm nL ret Q X d mc ms) (hd : decode cc pc = .ok (.invokevirtual idx, 3)) (hp : pc + 3 = pc') (hC : zCV own idx y n9) (hcon : Con l9 y d' mc' ms' (zR (some a) :: As) h (rR P) X') (ha : gT h a = some (kd, N)) (hr : (zCl[kd]?).map (fun q => q.1) = some y.1.cls) (hn : As.length = n9) (hst : stk = As.reverse ++ zR (some a) :: st) (hcat : zCs st ≤ 8) (hd' : d' < d) (hL : y.2.2.1 ≤ 81) (hk : k + mc' ≤ mc) (hs : n + ms' ≤ ms)
    (kk : ∀ x h', P x h' → zKeep h h' → SS Γ pc' L (zR x :: st) h' (k + mc') (n + ms')) (kx : ∀ a h', X' a h' → zKeep h h' → SX Γ pc L a h' (k + mc') (n + ms')) : SS Γ pc L stk h k n :=
  zs_callV hΓ hd hp hC hcon ha hr hn hst hcat hd' hL hk hs (fun r h' q kp => by obtain ⟨x, rfl, q⟩ := q; exact kk x h' q kp) kx
theorem zs_callSI {P : Int → zH → Prop} (hΓ : Ctx Γ l9 cc own nm nL ret Q X d mc ms) (hd : decode cc pc = .ok (.invokestatic idx, 3)) (hp : pc + 3 = pc') (hC : zCS own idx y n9) (hcon : Con l9 y d' mc' ms' As h (rI P) X') (hn : As.length = n9) (hst : stk = As.reverse ++ st) (hcat : zCs st ≤ 8) (hd' : d' < d) (hL : y.2.2.1 ≤ 81) (hk : k + mc' ≤ mc) (hs : n + ms' ≤ ms)
    (kk : ∀ x h', P x h' → zKeep h h' → SS Γ pc' L (zI x :: st) h' (k + mc') (n + ms')) (kx : ∀ a h', X' a h' → zKeep h h' → SX Γ pc L a h' (k + mc') (n + ms')) : SS Γ pc L stk h k n :=
  zs_callS hΓ hd hp hC hcon hn hst hcat hd' hL hk hs (fun r h' q kp => by obtain ⟨x, rfl, q⟩ := q; exact kk x h' q kp) kx
theorem zs_callSV {P : zH → Prop} (hΓ : Ctx Γ l9 cc own nm nL ret Q X d mc ms) (hd : decode cc pc = .ok (.invokestatic idx, 3)) (hp : pc + 3 = pc') (hC : zCS own idx y n9) (hcon : Con l9 y d' mc' ms' As h (rV P) X') (hn : As.length = n9) (hst : stk = As.reverse ++ st) (hcat : zCs st ≤ 8) (hd' : d' < d) (hL : y.2.2.1 ≤ 81) (hk : k + mc' ≤ mc) (hs : n + ms' ≤ ms)
    (kk : ∀ h', P h' → zKeep h h' → SS Γ pc' L st h' (k + mc') (n + ms')) (kx : ∀ a h', X' a h' → zKeep h h' → SX Γ pc L a h' (k + mc') (n + ms')) : SS Γ pc L stk h k n :=
  zs_callS hΓ hd hp hC hcon hn hst hcat hd' hL hk hs (fun r h' q kp => by obtain ⟨rfl, q⟩ := q; exact kk h' q kp) kx
theorem zs_callSR {P : Option zNm → zH → Prop} (hΓ : Ctx Γ l9 cc own nm nL ret Q X d mc ms) (hd : decode cc pc = .ok (.invokestatic idx, 3)) (hp : pc + 3 = pc') (hC : zCS own idx y n9) (hcon : Con l9 y d' mc' ms' As h (rR P) X') (hn : As.length = n9) (hst : stk = As.reverse ++ st) (hcat : zCs st ≤ 8) (hd' : d' < d) (hL : y.2.2.1 ≤ 81) (hk : k + mc' ≤ mc) (hs : n + ms' ≤ ms)
    (kk : ∀ x h', P x h' → zKeep h h' → SS Γ pc' L (zR x :: st) h' (k + mc') (n + ms')) (kx : ∀ a h', X' a h' → zKeep h h' → SX Γ pc L a h' (k + mc') (n + ms')) : SS Γ pc L stk h k n :=
  zs_callS hΓ hd hp hC hcon hn hst hcat hd' hL hk hs (fun r h' q kp => by obtain ⟨x, rfl, q⟩ := q; exact kk x h' q kp) kx
theorem zs_callIV {P : zH → Prop} (hΓ : Ctx Γ l9 cc own nm nL ret Q X d mc ms) (hd : decode cc pc = .ok (.invokespecial idx, 3)) (hp : pc + 3 = pc') (hC : zCI own idx y n9) (hcon : Con l9 y d' mc' ms' (zR (some a) :: As) h (rV P) X') (hn : As.length = n9) (hst : stk = As.reverse ++ zR (some a) :: st) (hcat : zCs st ≤ 8) (hd' : d' < d) (hL : y.2.2.1 ≤ 81) (hk : k + mc' ≤ mc) (hs : n + ms' ≤ ms)
    (kk : ∀ h', P h' → zKeep h h' → SS Γ pc' L st h' (k + mc') (n + ms')) (kx : ∀ a h', X' a h' → zKeep h h' → SX Γ pc L a h' (k + mc') (n + ms')) : SS Γ pc L stk h k n :=
  zs_callI hΓ hd hp hC hcon hn hst hcat hd' hL hk hs (fun r h' q kp => by obtain ⟨rfl, q⟩ := q; exact kk h' q kp) kx
theorem zs_callVIP {v : Int} (hΓ : Ctx Γ l9 cc own nm nL ret Q X d mc ms) (hd : decode cc pc = .ok (.invokevirtual idx, 3)) (hp : pc + 3 = pc') (hC : zCV own idx y n9) (hcon : Con l9 y d' mc' ms' (zR (some a) :: As) h (rI fun x h' => x = v ∧ h' = h) X') (ha : gT h a = some (kd, N)) (hr : (zCl[kd]?).map (fun q => q.1) = some y.1.cls) (hn : As.length = n9) (hst : stk = As.reverse ++ zR (some a) :: st) (hcat : zCs st ≤ 8) (hd' : d' < d) (hL : y.2.2.1 ≤ 81) (hk : k + mc' ≤ mc) (hs : n + ms' ≤ ms)
    (kk : SS Γ pc' L (zI v :: st) h (k + mc') (n + ms')) (kx : ∀ a h', X' a h' → zKeep h h' → SX Γ pc L a h' (k + mc') (n + ms')) : SS Γ pc L stk h k n :=
  zs_callV hΓ hd hp hC hcon ha hr hn hst hcat hd' hL hk hs (fun r h' q kp => by obtain ⟨x, rfl, rfl, rfl⟩ := q; exact kk) kx
theorem zs_callSIP {v : Int} (hΓ : Ctx Γ l9 cc own nm nL ret Q X d mc ms) (hd : decode cc pc = .ok (.invokestatic idx, 3)) (hp : pc + 3 = pc') (hC : zCS own idx y n9) (hcon : Con l9 y d' mc' ms' As h (rI fun x h' => x = v ∧ h' = h) X') (hn : As.length = n9) (hst : stk = As.reverse ++ st) (hcat : zCs st ≤ 8) (hd' : d' < d) (hL : y.2.2.1 ≤ 81) (hk : k + mc' ≤ mc) (hs : n + ms' ≤ ms)
    (kk : SS Γ pc' L (zI v :: st) h (k + mc') (n + ms')) (kx : ∀ a h', X' a h' → zKeep h h' → SX Γ pc L a h' (k + mc') (n + ms')) : SS Γ pc L stk h k n :=
  zs_callS hΓ hd hp hC hcon hn hst hcat hd' hL hk hs (fun r h' q kp => by obtain ⟨x, rfl, rfl, rfl⟩ := q; exact kk) kx
theorem zs_callVVE {h2 : zH} (hΓ : Ctx Γ l9 cc own nm nL ret Q X d mc ms) (hd : decode cc pc = .ok (.invokevirtual idx, 3)) (hp : pc + 3 = pc') (hC : zCV own idx y n9) (hcon : Con l9 y d' mc' ms' (zR (some a) :: As) h (rV fun h' => h' = h2) X') (ha : gT h a = some (kd, N)) (hr : (zCl[kd]?).map (fun q => q.1) = some y.1.cls) (hn : As.length = n9) (hst : stk = As.reverse ++ zR (some a) :: st) (hcat : zCs st ≤ 8) (hd' : d' < d) (hL : y.2.2.1 ≤ 81) (hk : k + mc' ≤ mc) (hs : n + ms' ≤ ms)
    (kk : SS Γ pc' L st h2 (k + mc') (n + ms')) (kx : ∀ a h', X' a h' → zKeep h h' → SX Γ pc L a h' (k + mc') (n + ms')) : SS Γ pc L stk h k n :=
  zs_callV hΓ hd hp hC hcon ha hr hn hst hcat hd' hL hk hs (fun r h' q kp => by obtain ⟨rfl, rfl⟩ := q; exact kk) kx
theorem zs_callVIE {v : Int} {h2 : zH} (hΓ : Ctx Γ l9 cc own nm nL ret Q X d mc ms) (hd : decode cc pc = .ok (.invokevirtual idx, 3)) (hp : pc + 3 = pc') (hC : zCV own idx y n9) (hcon : Con l9 y d' mc' ms' (zR (some a) :: As) h (rI fun x h' => x = v ∧ h' = h2) X') (ha : gT h a = some (kd, N)) (hr : (zCl[kd]?).map (fun q => q.1) = some y.1.cls) (hn : As.length = n9) (hst : stk = As.reverse ++ zR (some a) :: st) (hcat : zCs st ≤ 8) (hd' : d' < d) (hL : y.2.2.1 ≤ 81) (hk : k + mc' ≤ mc) (hs : n + ms' ≤ ms)
    (kk : SS Γ pc' L (zI v :: st) h2 (k + mc') (n + ms')) (kx : ∀ a h', X' a h' → zKeep h h' → SX Γ pc L a h' (k + mc') (n + ms')) : SS Γ pc L stk h k n :=
  zs_callV hΓ hd hp hC hcon ha hr hn hst hcat hd' hL hk hs (fun r h' q kp => by obtain ⟨x, rfl, rfl, rfl⟩ := q; exact kk) kx
theorem zs_callIVE {h2 : zH} (hΓ : Ctx Γ l9 cc own nm nL ret Q X d mc ms) (hd : decode cc pc = .ok (.invokespecial idx, 3)) (hp : pc + 3 = pc') (hC : zCI own idx y n9) (hcon : Con l9 y d' mc' ms' (zR (some a) :: As) h (rV fun h' => h' = h2) X') (hn : As.length = n9) (hst : stk = As.reverse ++ zR (some a) :: st) (hcat : zCs st ≤ 8) (hd' : d' < d) (hL : y.2.2.1 ≤ 81) (hk : k + mc' ≤ mc) (hs : n + ms' ≤ ms)
    (kk : SS Γ pc' L st h2 (k + mc') (n + ms')) (kx : ∀ a h', X' a h' → zKeep h h' → SX Γ pc L a h' (k + mc') (n + ms')) : SS Γ pc L stk h k n :=
  zs_callI hΓ hd hp hC hcon hn hst hcat hd' hL hk hs (fun r h' q kp => by obtain ⟨rfl, rfl⟩ := q; exact kk) kx
/-- a reference field whose name is known -/
theorem zs_getrE {i : Nat} {i9 : Int} {r : Option zNm} (hΓ : Ctx Γ l9 cc own nm nL ret Q X d mc ms) (hd : decode cc pc = .ok (.getfield idx, 3)) (hp : pc + 3 = pc') (hF : zFld own idx kd i) (hi : (i : Int) = i9) (hc : zCat (zTy kd i) = 2) (ha : gT h a = some (kd, N)) (hr : gP h a i9 = r) (kk : SS Γ pc' L (zR r :: st) h k n) : SS Γ pc L (zR (some a) :: st) h k n :=
  zs_getr hΓ hd hp hF hi hc ha (by rw [hr]; exact kk)
/-- a reference in an array whose name is known -/
theorem zs_aaldE {j : Nat} {i : Int} {r : Option zNm} (hΓ : Ctx Γ l9 cc own nm nL ret Q X d mc ms) (hd : decode cc pc = .ok (.aaload, 1)) (hp : pc + 1 = pc') (hj : j < 9) (hj4 : 4 ≤ j) (ha : gT h a = some (100 + j, N)) (h0 : 0 ≤ i) (h1 : i < N) (hr : gP h a i = r) (kk : SS Γ pc' L (zR r :: st) h k n) : SS Γ pc L (zI i :: zR (some a) :: st) h k n :=
  zs_aald hΓ hd hp hj hj4 ha h0 h1 (by rw [hr]; exact kk)
/-- a local forgotten -/
theorem zs_drop {L' : List (Option zV)} (i : Nat) (hL : L.set i none = L') (kk : SS Γ pc L' st h k n) : SS Γ pc L st h k n := by
  subst hL
  refine zs_locals (fun j v hj => ?_) kk
  by_cases e : j = i
  · subst e
    have hlt : j < L.length := by
      have := (List.getElem?_eq_some_iff.mp hj).1
      rw [List.length_set] at this
      exact this
    rw [List.getElem?_set_self hlt] at hj
    cases hj
  · rw [List.getElem?_set_ne (Ne.symm e)] at hj
    exact hj
/-- an answer that is one of the start's values -/
theorem zs_eqI {x y : Int} (e : x = y) (kk : SS Γ pc L (zI y :: st) h k n) : SS Γ pc L (zI x :: st) h k n := by rw [e]; exact kk
end ZH
/-- the same names and pointers; the same numbers but at the places C -/
def Same (C : zNm → Int → Prop) (h h' : zH) : Prop := h'.1 = h.1 ∧ h'.2.2 = h.2.2 ∧ ∀ a j, ¬ C a j → gI h' a j = gI h a j
theorem Same.rf (C : zNm → Int → Prop) (h : zH) : Same C h h := ⟨rfl, rfl, fun _ _ _ => rfl⟩
theorem Same.tr {C : zNm → Int → Prop} {h0 h1 h2 : zH} (a : Same C h0 h1) (b : Same C h1 h2) : Same C h0 h2 := ⟨b.1.trans a.1, b.2.1.trans a.2.1, fun x j c => (b.2.2 x j c).trans (a.2.2 x j c)⟩
theorem Same.mono {C C' : zNm → Int → Prop} {h0 h1 : zH} (a : Same C h0 h1) (hC : ∀ x j, C x j → C' x j) : Same C' h0 h1 := ⟨a.1, a.2.1, fun x j c => a.2.2 x j fun z => c (hC x j z)⟩
theorem Same.set {C : zNm → Int → Prop} {h0 h1 : zH} (a : Same C h0 h1) {x : zNm} {j v : Int} (hC : C x j) : Same C h0 (setI h1 x j v) := ⟨a.1, a.2.1, fun b i c => by
  rw [gI_setI, if_neg (fun z => c (by rw [z.1, z.2]; exact hC))]
  exact a.2.2 b i c⟩
theorem Same.T {C : zNm → Int → Prop} {h h' : zH} (a : Same C h h') (x : zNm) : gT h' x = gT h x := congrFun a.1 x
theorem Same.P {C : zNm → Int → Prop} {h h' : zH} (a : Same C h h') (x : zNm) (j : Int) : gP h' x j = gP h x j := congrFun (congrFun a.2.1 x) j
