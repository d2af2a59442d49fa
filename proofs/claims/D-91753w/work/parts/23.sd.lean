/-! THE NAMED HEAP, part D: branches, ends, throws -/
set_option maxRecDepth 100000
section ZB
variable {Γ : zG} {l9 : Launch} {cc : ByteArray} {own nm : String} {nL : Nat} {ret : Option FieldType} {Q : Option zV → zH → Prop} {X : zNm → zH → Prop} {d mc ms : Nat} {pc pc' tgt : Nat} {off : Int} {L : List (Option zV)} {st : List zV} {h : zH} {k n : Nat}
theorem zs_ifeq {x : Int} (hΓ : Ctx Γ l9 cc own nm nL ret Q X d mc ms) (hd : decode cc pc = .ok (.ifCond .eq off, 3)) (ht : (pc : Int) + off = (tgt : Int)) (hp : pc + 3 = pc') (kt : x = 0 → SS Γ tgt L st h k n) (kf : ¬ x = 0 → SS Γ pc' L st h k n) : SS Γ pc L (zI x :: st) h k n := by
  obtain ⟨p, l, e, R, s, m, args, below, meth, c, A, D, Q0, X0, mc0, ms0, ρ0, h0⟩ := Γ
  obtain ⟨hx, hb, -⟩ := hΓ
  subst hp
  intro ρ ls H locs hl hS
  have w : inI x := hS.hd
  exact lv_if_eq hx hb hd ht (fun z => kt ((iO_eq0 w).mp z) ρ ls H locs hl hS.tl) (fun z => kf (fun q => z ((iO_eq0 w).mpr q)) ρ ls H locs hl hS.tl)
theorem zs_ifne {x : Int} (hΓ : Ctx Γ l9 cc own nm nL ret Q X d mc ms) (hd : decode cc pc = .ok (.ifCond .ne off, 3)) (ht : (pc : Int) + off = (tgt : Int)) (hp : pc + 3 = pc') (kt : ¬ x = 0 → SS Γ tgt L st h k n) (kf : x = 0 → SS Γ pc' L st h k n) : SS Γ pc L (zI x :: st) h k n := by
  obtain ⟨p, l, e, R, s, m, args, below, meth, c, A, D, Q0, X0, mc0, ms0, ρ0, h0⟩ := Γ
  obtain ⟨hx, hb, -⟩ := hΓ
  subst hp
  intro ρ ls H locs hl hS
  have w : inI x := hS.hd
  exact lv_if_ne hx hb hd ht (fun z => kt (fun q => z ((iO_eq0 w).mpr q)) ρ ls H locs hl hS.tl) (fun z => kf ((iO_eq0 w).mp z) ρ ls H locs hl hS.tl)
theorem zs_iflt {x : Int} (hΓ : Ctx Γ l9 cc own nm nL ret Q X d mc ms) (hd : decode cc pc = .ok (.ifCond .lt off, 3)) (ht : (pc : Int) + off = (tgt : Int)) (hp : pc + 3 = pc') (kt : x < 0 → SS Γ tgt L st h k n) (kf : 0 ≤ x → SS Γ pc' L st h k n) : SS Γ pc L (zI x :: st) h k n := by
  obtain ⟨p, l, e, R, s, m, args, below, meth, c, A, D, Q0, X0, mc0, ms0, ρ0, h0⟩ := Γ
  obtain ⟨hx, hb, -⟩ := hΓ
  subst hp
  intro ρ ls H locs hl hS
  have w : inI x := hS.hd
  exact lv_if_lt hx hb hd ht (fun z => kt ((iO_lt0 w).mp z) ρ ls H locs hl hS.tl) (fun z => kf (Int.not_lt.mp fun q => z ((iO_lt0 w).mpr q)) ρ ls H locs hl hS.tl)
theorem zs_ifge {x : Int} (hΓ : Ctx Γ l9 cc own nm nL ret Q X d mc ms) (hd : decode cc pc = .ok (.ifCond .ge off, 3)) (ht : (pc : Int) + off = (tgt : Int)) (hp : pc + 3 = pc') (kt : 0 ≤ x → SS Γ tgt L st h k n) (kf : x < 0 → SS Γ pc' L st h k n) : SS Γ pc L (zI x :: st) h k n := by
  obtain ⟨p, l, e, R, s, m, args, below, meth, c, A, D, Q0, X0, mc0, ms0, ρ0, h0⟩ := Γ
  obtain ⟨hx, hb, -⟩ := hΓ
  subst hp
  intro ρ ls H locs hl hS
  have w : inI x := hS.hd
  exact lv_if_ge hx hb hd ht (fun z => kt ((iO_0le w).mp z) ρ ls H locs hl hS.tl) (fun z => kf (Int.not_le.mp fun q => z ((iO_0le w).mpr q)) ρ ls H locs hl hS.tl)
theorem zs_ifgt {x : Int} (hΓ : Ctx Γ l9 cc own nm nL ret Q X d mc ms) (hd : decode cc pc = .ok (.ifCond .gt off, 3)) (ht : (pc : Int) + off = (tgt : Int)) (hp : pc + 3 = pc') (kt : 0 < x → SS Γ tgt L st h k n) (kf : x ≤ 0 → SS Γ pc' L st h k n) : SS Γ pc L (zI x :: st) h k n := by
  obtain ⟨p, l, e, R, s, m, args, below, meth, c, A, D, Q0, X0, mc0, ms0, ρ0, h0⟩ := Γ
  obtain ⟨hx, hb, -⟩ := hΓ
  subst hp
  intro ρ ls H locs hl hS
  have w : inI x := hS.hd
  exact lv_if_gt hx hb hd ht (fun z => kt ((iO_0lt w).mp z) ρ ls H locs hl hS.tl) (fun z => kf (Int.not_lt.mp fun q => z ((iO_0lt w).mpr q)) ρ ls H locs hl hS.tl)
theorem zs_ifle {x : Int} (hΓ : Ctx Γ l9 cc own nm nL ret Q X d mc ms) (hd : decode cc pc = .ok (.ifCond .le off, 3)) (ht : (pc : Int) + off = (tgt : Int)) (hp : pc + 3 = pc') (kt : x ≤ 0 → SS Γ tgt L st h k n) (kf : 0 < x → SS Γ pc' L st h k n) : SS Γ pc L (zI x :: st) h k n := by
  obtain ⟨p, l, e, R, s, m, args, below, meth, c, A, D, Q0, X0, mc0, ms0, ρ0, h0⟩ := Γ
  obtain ⟨hx, hb, -⟩ := hΓ
  subst hp
  intro ρ ls H locs hl hS
  have w : inI x := hS.hd
  exact lv_if_le hx hb hd ht (fun z => kt ((iO_le0 w).mp z) ρ ls H locs hl hS.tl) (fun z => kf (Int.not_le.mp fun q => z ((iO_le0 w).mpr q)) ρ ls H locs hl hS.tl)
theorem zs_icmpeq {x y : Int} (hΓ : Ctx Γ l9 cc own nm nL ret Q X d mc ms) (hd : decode cc pc = .ok (.if_icmp .eq off, 3)) (ht : (pc : Int) + off = (tgt : Int)) (hp : pc + 3 = pc') (kt : x = y → SS Γ tgt L st h k n) (kf : ¬ x = y → SS Γ pc' L st h k n) : SS Γ pc L (zI y :: zI x :: st) h k n := by
  obtain ⟨p, l, e, R, s, m, args, below, meth, c, A, D, Q0, X0, mc0, ms0, ρ0, h0⟩ := Γ
  obtain ⟨hx, hb, -⟩ := hΓ
  subst hp
  intro ρ ls H locs hl hS
  have wy : inI y := hS.hd
  have w : inI x := hS.tl.hd
  exact lv_icmp_eq hx hb hd ht (fun z => kt ((iO_eq w wy).mp z) ρ ls H locs hl hS.tl.tl) (fun z => kf (fun q => z ((iO_eq w wy).mpr q)) ρ ls H locs hl hS.tl.tl)
theorem zs_icmpne {x y : Int} (hΓ : Ctx Γ l9 cc own nm nL ret Q X d mc ms) (hd : decode cc pc = .ok (.if_icmp .ne off, 3)) (ht : (pc : Int) + off = (tgt : Int)) (hp : pc + 3 = pc') (kt : ¬ x = y → SS Γ tgt L st h k n) (kf : x = y → SS Γ pc' L st h k n) : SS Γ pc L (zI y :: zI x :: st) h k n := by
  obtain ⟨p, l, e, R, s, m, args, below, meth, c, A, D, Q0, X0, mc0, ms0, ρ0, h0⟩ := Γ
  obtain ⟨hx, hb, -⟩ := hΓ
  subst hp
  intro ρ ls H locs hl hS
  have wy : inI y := hS.hd
  have w : inI x := hS.tl.hd
  exact lv_icmp_ne hx hb hd ht (fun z => kt (fun q => z ((iO_eq w wy).mpr q)) ρ ls H locs hl hS.tl.tl) (fun z => kf ((iO_eq w wy).mp z) ρ ls H locs hl hS.tl.tl)
theorem zs_icmplt {x y : Int} (hΓ : Ctx Γ l9 cc own nm nL ret Q X d mc ms) (hd : decode cc pc = .ok (.if_icmp .lt off, 3)) (ht : (pc : Int) + off = (tgt : Int)) (hp : pc + 3 = pc') (kt : x < y → SS Γ tgt L st h k n) (kf : y ≤ x → SS Γ pc' L st h k n) : SS Γ pc L (zI y :: zI x :: st) h k n := by
  obtain ⟨p, l, e, R, s, m, args, below, meth, c, A, D, Q0, X0, mc0, ms0, ρ0, h0⟩ := Γ
  obtain ⟨hx, hb, -⟩ := hΓ
  subst hp
  intro ρ ls H locs hl hS
  have wy : inI y := hS.hd
  have w : inI x := hS.tl.hd
  exact lv_icmp_lt hx hb hd ht (fun z => kt ((iO_lt w wy).mp z) ρ ls H locs hl hS.tl.tl) (fun z => kf (Int.not_lt.mp fun q => z ((iO_lt w wy).mpr q)) ρ ls H locs hl hS.tl.tl)
theorem zs_icmpge {x y : Int} (hΓ : Ctx Γ l9 cc own nm nL ret Q X d mc ms) (hd : decode cc pc = .ok (.if_icmp .ge off, 3)) (ht : (pc : Int) + off = (tgt : Int)) (hp : pc + 3 = pc') (kt : y ≤ x → SS Γ tgt L st h k n) (kf : x < y → SS Γ pc' L st h k n) : SS Γ pc L (zI y :: zI x :: st) h k n := by
  obtain ⟨p, l, e, R, s, m, args, below, meth, c, A, D, Q0, X0, mc0, ms0, ρ0, h0⟩ := Γ
  obtain ⟨hx, hb, -⟩ := hΓ
  subst hp
  intro ρ ls H locs hl hS
  have wy : inI y := hS.hd
  have w : inI x := hS.tl.hd
  exact lv_icmp_ge hx hb hd ht (fun z => kt ((iO_le wy w).mp z) ρ ls H locs hl hS.tl.tl) (fun z => kf (Int.not_le.mp fun q => z ((iO_le wy w).mpr q)) ρ ls H locs hl hS.tl.tl)
theorem zs_icmpgt {x y : Int} (hΓ : Ctx Γ l9 cc own nm nL ret Q X d mc ms) (hd : decode cc pc = .ok (.if_icmp .gt off, 3)) (ht : (pc : Int) + off = (tgt : Int)) (hp : pc + 3 = pc') (kt : y < x → SS Γ tgt L st h k n) (kf : x ≤ y → SS Γ pc' L st h k n) : SS Γ pc L (zI y :: zI x :: st) h k n := by
  obtain ⟨p, l, e, R, s, m, args, below, meth, c, A, D, Q0, X0, mc0, ms0, ρ0, h0⟩ := Γ
  obtain ⟨hx, hb, -⟩ := hΓ
  subst hp
  intro ρ ls H locs hl hS
  have wy : inI y := hS.hd
  have w : inI x := hS.tl.hd
  exact lv_icmp_gt hx hb hd ht (fun z => kt ((iO_lt wy w).mp z) ρ ls H locs hl hS.tl.tl) (fun z => kf (Int.not_lt.mp fun q => z ((iO_lt wy w).mpr q)) ρ ls H locs hl hS.tl.tl)
theorem zs_icmple {x y : Int} (hΓ : Ctx Γ l9 cc own nm nL ret Q X d mc ms) (hd : decode cc pc = .ok (.if_icmp .le off, 3)) (ht : (pc : Int) + off = (tgt : Int)) (hp : pc + 3 = pc') (kt : x ≤ y → SS Γ tgt L st h k n) (kf : y < x → SS Γ pc' L st h k n) : SS Γ pc L (zI y :: zI x :: st) h k n := by
  obtain ⟨p, l, e, R, s, m, args, below, meth, c, A, D, Q0, X0, mc0, ms0, ρ0, h0⟩ := Γ
  obtain ⟨hx, hb, -⟩ := hΓ
  subst hp
  intro ρ ls H locs hl hS
  have wy : inI y := hS.hd
  have w : inI x := hS.tl.hd
  exact lv_icmp_le hx hb hd ht (fun z => kt ((iO_le w wy).mp z) ρ ls H locs hl hS.tl.tl) (fun z => kf (Int.not_le.mp fun q => z ((iO_le w wy).mpr q)) ρ ls H locs hl hS.tl.tl)
theorem zs_goto (hΓ : Ctx Γ l9 cc own nm nL ret Q X d mc ms) (hd : decode cc pc = .ok (.goto off, 3)) (ht : (pc : Int) + off = (tgt : Int)) (kk : SS Γ tgt L st h k n) : SS Γ pc L st h k n := by
  obtain ⟨p, l, e, R, s, m, args, below, meth, c, A, D, Q0, X0, mc0, ms0, ρ0, h0⟩ := Γ
  obtain ⟨hx, hb, -⟩ := hΓ
  intro ρ ls H locs hl hS
  exact lv_goto hx hb hd ht (kk ρ ls H locs hl hS)
theorem zs_ifnull {r : Option zNm} (hΓ : Ctx Γ l9 cc own nm nL ret Q X d mc ms) (hd : decode cc pc = .ok (.ifnull off, 3)) (ht : (pc : Int) + off = (tgt : Int)) (hp : pc + 3 = pc') (kt : r = none → SS Γ tgt L st h k n) (kf : ∀ a, r = some a → SS Γ pc' L st h k n) : SS Γ pc L (zR r :: st) h k n := by
  obtain ⟨p, l, e, R, s, m, args, below, meth, c, A, D, Q0, X0, mc0, ms0, ρ0, h0⟩ := Γ
  obtain ⟨hx, hb, -⟩ := hΓ
  subst hp
  intro ρ ls H locs hl hS
  cases r with
  | none => exact lv_ifnullN hx hb hd ht (kt rfl ρ ls H locs hl hS.tl)
  | some a => exact lv_ifnull hx hb hd (kf a rfl ρ ls H locs hl hS.tl)
theorem zs_ifnonnull {r : Option zNm} (hΓ : Ctx Γ l9 cc own nm nL ret Q X d mc ms) (hd : decode cc pc = .ok (.ifnonnull off, 3)) (ht : (pc : Int) + off = (tgt : Int)) (hp : pc + 3 = pc') (kt : ∀ a, r = some a → SS Γ tgt L st h k n) (kf : r = none → SS Γ pc' L st h k n) : SS Γ pc L (zR r :: st) h k n := by
  obtain ⟨p, l, e, R, s, m, args, below, meth, c, A, D, Q0, X0, mc0, ms0, ρ0, h0⟩ := Γ
  obtain ⟨hx, hb, -⟩ := hΓ
  subst hp
  intro ρ ls H locs hl hS
  cases r with
  | none => exact lv_ifnonnullN hx hb hd (kf rfl ρ ls H locs hl hS.tl)
  | some a => exact lv_ifnonnull hx hb hd ht (kt a rfl ρ ls H locs hl hS.tl)
theorem zr_inj {ρ : zNm → Nat} (hI : zInj ρ h) {x y : Option zNm} (wx : zWfV h (zR x)) (wy : zWfV h (zR y)) : x.map ρ = y.map ρ ↔ x = y := by
  constructor
  · intro z
    cases x with
    | none => cases y with
      | none => rfl
      | some b => cases z
    | some a => cases y with
      | none => cases z
      | some b => rw [hI a b (wx a rfl) (wy b rfl) (Option.some.inj z)]
  · intro z
    rw [z]
theorem zs_acmpeq {x y : Option zNm} (hΓ : Ctx Γ l9 cc own nm nL ret Q X d mc ms) (hd : decode cc pc = .ok (.if_acmp .eq off, 3)) (ht : (pc : Int) + off = (tgt : Int)) (hp : pc + 3 = pc') (kt : x = y → SS Γ tgt L st h k n) (kf : ¬ x = y → SS Γ pc' L st h k n) : SS Γ pc L (zR y :: zR x :: st) h k n := by
  obtain ⟨p, l, e, R, s, m, args, below, meth, c, A, D, Q0, X0, mc0, ms0, ρ0, h0⟩ := Γ
  obtain ⟨hx, hb, -⟩ := hΓ
  subst hp
  intro ρ ls H locs hl hS
  have w := zr_inj hS.1.2.1 hS.tl.hd hS.hd
  exact lv_acmp_eq hx hb hd ht (fun z => kt (w.mp z) ρ ls H locs hl hS.tl.tl) (fun z => kf (fun q => z (w.mpr q)) ρ ls H locs hl hS.tl.tl)
theorem zs_acmpne {x y : Option zNm} (hΓ : Ctx Γ l9 cc own nm nL ret Q X d mc ms) (hd : decode cc pc = .ok (.if_acmp .ne off, 3)) (ht : (pc : Int) + off = (tgt : Int)) (hp : pc + 3 = pc') (kt : ¬ x = y → SS Γ tgt L st h k n) (kf : x = y → SS Γ pc' L st h k n) : SS Γ pc L (zR y :: zR x :: st) h k n := by
  obtain ⟨p, l, e, R, s, m, args, below, meth, c, A, D, Q0, X0, mc0, ms0, ρ0, h0⟩ := Γ
  obtain ⟨hx, hb, -⟩ := hΓ
  subst hp
  intro ρ ls H locs hl hS
  have w := zr_inj hS.1.2.1 hS.tl.hd hS.hd
  exact lv_acmp_ne hx hb hd ht (fun z => kt (fun q => z (w.mpr q)) ρ ls H locs hl hS.tl.tl) (fun z => kf (w.mp z) ρ ls H locs hl hS.tl.tl)
theorem zs_tabIn {x dflt lo hi : Int} {offs : Array Int} {len : Nat} (hΓ : Ctx Γ l9 cc own nm nL ret Q X d mc ms) (hd : decode cc pc = .ok (.tableswitch dflt lo hi offs, len)) (h1 : lo ≤ x) (h2 : x ≤ hi) (ho : offs[(x - lo).toNat]? = some off) (ht : (pc : Int) + off = (tgt : Int)) (kk : SS Γ tgt L st h k n) : SS Γ pc L (zI x :: st) h k n := by
  obtain ⟨p, l, e, R, s, m, args, below, meth, c, A, D, Q0, X0, mc0, ms0, ρ0, h0⟩ := Γ
  obtain ⟨hx, hb, -⟩ := hΓ
  intro ρ ls H locs hl hS
  have w : inI x := hS.hd
  exact lv_tableIn hx hb hd (by rw [iO_toInt w]; omega) (by rw [iO_toInt w]; omega) (by rw [iO_toInt w]; exact ho) ht (kk ρ ls H locs hl hS.tl)
theorem zs_tabOut {x dflt lo hi : Int} {offs : Array Int} {len : Nat} (hΓ : Ctx Γ l9 cc own nm nL ret Q X d mc ms) (hd : decode cc pc = .ok (.tableswitch dflt lo hi offs, len)) (h1 : x < lo ∨ hi < x) (ht : (pc : Int) + dflt = (tgt : Int)) (kk : SS Γ tgt L st h k n) : SS Γ pc L (zI x :: st) h k n := by
  obtain ⟨p, l, e, R, s, m, args, below, meth, c, A, D, Q0, X0, mc0, ms0, ρ0, h0⟩ := Γ
  obtain ⟨hx, hb, -⟩ := hΓ
  intro ρ ls H locs hl hS
  have w : inI x := hS.hd
  exact lv_tableOut hx hb hd (by rw [iO_toInt w]; exact h1) ht (kk ρ ls H locs hl hS.tl)
/-- what is known of the number on top -/
theorem zs_topI {x : Int} (kk : inI x → SS Γ pc L (zI x :: st) h k n) : SS Γ pc L (zI x :: st) h k n := by
  obtain ⟨p, l, e, R, s, m, args, below, meth, c, A, D, Q0, X0, mc0, ms0, ρ0, h0⟩ := Γ
  intro ρ ls H locs hl hS
  exact kk hS.hd ρ ls H locs hl hS
theorem zs_topR {a : zNm} (kk : gT h a ≠ none → SS Γ pc L (zR (some a) :: st) h k n) : SS Γ pc L (zR (some a) :: st) h k n := by
  obtain ⟨p, l, e, R, s, m, args, below, meth, c, A, D, Q0, X0, mc0, ms0, ρ0, h0⟩ := Γ
  intro ρ ls H locs hl hS
  exact kk (hS.hd a rfl) ρ ls H locs hl hS
/-- the heap is well formed; names since the start are kept -/
theorem zs_wf (kk : zWfH h → SS Γ pc L st h k n) : SS Γ pc L st h k n := by
  obtain ⟨p, l, e, R, s, m, args, below, meth, c, A, D, Q0, X0, mc0, ms0, ρ0, h0⟩ := Γ
  intro ρ ls H locs hl hS
  exact kk hS.1.2.2.1 ρ ls H locs hl hS
theorem zs_widen {k' n' : Nat} (hk : k ≤ k') (hn : n ≤ n') (kk : SS Γ pc L st h k' n') : SS Γ pc L st h k n := by
  obtain ⟨p, l, e, R, s, m, args, below, meth, c, A, D, Q0, X0, mc0, ms0, ρ0, h0⟩ := Γ
  intro ρ ls H locs hl hS
  exact W.widen hk hn (kk ρ ls H locs hl hS)
/-- fewer locals -/
theorem zs_locals {L' : List (Option zV)} (hL : ∀ (i : Nat) (v : zV), L'[i]? = some (some v) → L[i]? = some (some v)) (kk : SS Γ pc L' st h k n) : SS Γ pc L st h k n := by
  obtain ⟨p, l, e, R, s, m, args, below, meth, c, A, D, Q0, X0, mc0, ms0, ρ0, h0⟩ := Γ
  intro ρ ls H locs hl hS
  refine kk ρ ls H locs (zl_has hl fun q hq => ?_) (hS.loc fun i v hv => hS.2.2.1 i v (hL i v hv))
  obtain ⟨v, h1, h2⟩ := zPr_mem.mp hq
  exact zPr_mem.mpr ⟨v, hL q.1 v h1, h2⟩
/-- heaps that are the same -/
theorem zs_heq {h' : zH} (e : h = h') (kk : SS Γ pc L st h' k n) : SS Γ pc L st h k n := by rw [e]; exact kk
/-! ends -/
theorem zs_nret {x : Int} {ty : FieldType} (hΓ : Ctx Γ l9 cc own nm nL ret Q X d mc ms) (hd : decode cc pc = .ok (.ireturn, 1)) (hr : ret = some ty) (hn : narrow ty (.int (iO x)) = .int (iO x)) (hk : k ≤ mc) (hs : n ≤ ms) (hq : Q (some (zI x)) h) : SS Γ pc L [zI x] h k n := by
  obtain ⟨p, l, e, R, s, m, args, below, meth, c, A, D, Q0, X0, mc0, ms0, ρ0, h0⟩ := Γ
  obtain ⟨hx, hb, hml, hret, hlk, hown, hts, hA, hK, hnm, rfl, rfl, rfl, hR, rfl, rfl⟩ := hΓ
  intro ρ ls H locs hl hS
  refine W.widen hk hs (vy_ret ?_)
  exact W.zret hx hb (hret.trans hr) hn (fun t ht hW => ⟨some (zI x), h, ρ, rfl, hq, fun v e => (by cases e; exact hS.hd), by rw [ht]; exact hS.1⟩) hS.2.2.2 hd hlk
theorem zs_iret {x : Int} (hΓ : Ctx Γ l9 cc own nm nL ret Q X d mc ms) (hd : decode cc pc = .ok (.ireturn, 1)) (hr : ret = some .int) (hk : k ≤ mc) (hs : n ≤ ms) (hq : Q (some (zI x)) h) : SS Γ pc L [zI x] h k n := zs_nret hΓ hd hr rfl hk hs hq
theorem zs_zret {x : Int} (hΓ : Ctx Γ l9 cc own nm nL ret Q X d mc ms) (hd : decode cc pc = .ok (.ireturn, 1)) (hr : ret = some .boolean) (hx : x = 0 ∨ x = 1) (hk : k ≤ mc) (hs : n ≤ ms) (hq : Q (some (zI x)) h) : SS Γ pc L [zI x] h k n := by
  rcases hx with rfl | rfl
  · exact zs_nret hΓ hd hr (by decide) hk hs hq
  · exact zs_nret hΓ hd hr (by decide) hk hs hq
theorem zs_vret (hΓ : Ctx Γ l9 cc own nm nL ret Q X d mc ms) (hd : decode cc pc = .ok (.return_, 1)) (hr : ret = none) (hk : k ≤ mc) (hs : n ≤ ms) (hq : Q none h) : SS Γ pc L [] h k n := by
  obtain ⟨p, l, e, R, s, m, args, below, meth, c, A, D, Q0, X0, mc0, ms0, ρ0, h0⟩ := Γ
  obtain ⟨hx, hb, hml, hret, hlk, hown, hts, hA, hK, hnm, rfl, rfl, rfl, hR, rfl, rfl⟩ := hΓ
  intro ρ ls H locs hl hS
  refine W.widen hk hs (vy_ret ?_)
  exact W.vret hx hb (hret.trans hr) (fun t ht hW => ⟨none, h, ρ, rfl, hq, fun v e => (by cases e), by rw [ht]; exact hS.1⟩) hS.2.2.2 hd hlk
theorem zs_aret {r : Option zNm} {rt : FieldType} (hΓ : Ctx Γ l9 cc own nm nL ret Q X d mc ms) (hd : decode cc pc = .ok (.areturn, 1)) (hr : ret = some rt) (hrt : (∃ n, rt = .object n) ∨ ∃ t, rt = .array t) (hk : k ≤ mc) (hs : n ≤ ms) (hq : Q (some (zR r)) h) : SS Γ pc L [zR r] h k n := by
  obtain ⟨p, l, e, R, s, m, args, below, meth, c, A, D, Q0, X0, mc0, ms0, ρ0, h0⟩ := Γ
  obtain ⟨hx, hb, hml, hret, hlk, hown, hts, hA, hK, hnm, rfl, rfl, rfl, hR, rfl, rfl⟩ := hΓ
  intro ρ ls H locs hl hS
  refine W.widen hk hs (vy_ret ?_)
  refine W.aret hx hb (hret.trans hr) hrt ?_ (fun t ht hW => ⟨some (zR r), h, ρ, rfl, hq, fun v e => (by cases e; exact hS.hd), by rw [ht]; exact hS.1⟩) hS.2.2.2 hd hlk
  cases r with
  | none => exact Or.inl rfl
  | some a => exact Or.inr ⟨ρ a, rfl⟩
/-! throws -/
theorem zs_athrow {a : zNm} (hΓ : Ctx Γ l9 cc own nm nL ret Q X d mc ms) (hd : decode cc pc = .ok (.athrow, 1)) (kk : SX Γ pc L a h k n) : SS Γ pc L (zR (some a) :: st) h k n := by
  obtain ⟨p, l, e, R, s, m, args, below, meth, c, A, D, Q0, X0, mc0, ms0, ρ0, h0⟩ := Γ
  obtain ⟨hx, hb, -⟩ := hΓ
  intro ρ ls H locs hl hS
  exact vx_athrow hx hb hd (kk ρ ls H locs _ hl (hS.re fun v hv => by
    rcases List.mem_cons.mp hv with e | e
    · rw [e]; exact hS.hd
    · cases e))
/-- an object's cell, seen by its class -/
theorem zRep.obj {D : va_G} {ρ : zNm → Nat} {H : Heap} (hR : zRep D ρ h H) {a : zNm} {kd N : Nat} {r : vw_C} (ha : gT h a = some (kd, N)) (hr : zCl[kd]? = some r) : t_OB (ρ a) (D.1 kd) r.2.2 (D.2 kd) H (fun k => zEnc ρ (zTy kd k) (gI h a k) (gP h a k)) ∧ N = r.2.2 := by
  have hlt : kd < 100 := (zcl_ok kd r hr).2.2.2
  rcases hR a kd N ha with ⟨q, h1, h2, h3⟩ | ⟨j, h1, -⟩ | ⟨h1, -⟩
  · cases h1.symm.trans hr
    exact ⟨h3, h2⟩
  · omega
  · omega
theorem zs_out {a : zNm} {kd N : Nat} {r : vw_C} (hΓ : Ctx Γ l9 cc own nm nL ret Q X d mc ms) (hno : NoH Γ) (ha : gT h a = some (kd, N)) (hr : zCl[kd]? = some r) (hk : k ≤ mc) (hs : n ≤ ms) (hq : X a h) : SX Γ pc L a h k n := by
  obtain ⟨p, l, e, R, s, m, args, below, meth, c, A, D, Q0, X0, mc0, ms0, ρ0, h0⟩ := Γ
  obtain ⟨hx, hb, hml, hret, hlk, hown, hts, hA, hK, hnm, rfl, rfl, rfl, hR, rfl, rfl⟩ := hΓ
  intro ρ ls H locs rest hl hS
  obtain ⟨⟨cell, g1, g2, g3, -⟩, -⟩ := hS.1.1.obj ha hr
  refine vy_out (E := r.1) (fun x hx => absurd hx (fun z => hno x z)) hlk g1 g3 ?_ (fun t ht hW => ⟨a, h, ρ, kd, N, r, hq, ha, hr, rfl, rfl, by rw [ht]; exact hS.1⟩) hS.2.2.2 hk hs
  rw [g2]
  exact (hK.1.1 kd r hr).2.1
end ZB
