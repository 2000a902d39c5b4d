section
/-! ===== small rows ===== -/
theorem rr_fill {s : Nat → Int32} {i k : Nat} {x : Int32} (hk : k = i) (h : 0 < i → s 0 = x) : upd s k x 0 = x := by
  subst hk
  by_cases e : 0 = k
  · rw [← e, pk_us]
  · rw [pk_un e]
    exact h (by omega)
theorem rr_m15 : ∀ j, j < 16 → nI j &&& 15 = nI j := by decide +kernel
theorem rr_30 (x : Int32) : (0 : Int32) * 3 + x = x := by
  rw [show (0 : Int32) * 3 = 0 from rfl, Int32.zero_add]
theorem rr_badVar {post : Int32 → Prop} {k : Nat} (hk : k < 4) (h : post 0) : wpX_badVar post () (nI k) :=
  br_f (nI_pos (by omega)) (pk_le k 3 (fun _ => h) (fun z => absurd z (by omega)))
theorem rr_bad0 {post : Int32 → Prop} (h : post 0) : wpX_bad post () 0 :=
  br_f (by decide) (br_t (by decide) h)
section
variable {f1 f2 f3 f4 f5 f6 f7 f8 : Int32} {a1 a2 a3 a4 a5 a6 a7 a8 a9 a10 a11 a12 a13 a14 a15 a16 a17 a18 a19 : Nat → Int32}
/-! ===== the constructor ===== -/
theorem rr_init {post : St2 → Prop} {mc ms : Nat} (hc : 19 ≤ mc) (hs : 390 ≤ ms)
    (H : ∀ b5 b6 b7 : Nat → Int32, b5 0 = -1 → b6 0 = -1 → b7 0 = -1 → post (f1, f2, f3, f4, f5, f6, (-1), f8, (fun _ => 0), (fun _ => 0), (fun _ => 0), (fun _ => 0), b5, b6, b7, (fun _ => 0), (fun _ => 0), (fun _ => 0), (fun _ => 0), (fun _ => 0), (fun _ => 0), (fun _ => 0), (fun _ => 0), (fun _ => 0), (fun _ => 0), (fun _ => 0), (fun _ => 0))) :
    wpX_init post mc ms (f1, f2, f3, f4, f5, f6, f7, f8) := by
  unfold wpX_init
  refine ⟨by omega, by omega, by omega, by omega, by omega, by omega, by omega, by omega, by omega, by omega, by omega, by omega, by omega, by omega, by omega, by omega, by omega, by omega, by omega, by omega, by omega, by omega, by omega, by omega, by omega, by omega, by omega, by omega, by omega, by omega, by omega, by omega, by omega, by omega, by omega, by omega, by omega, by omega, ?_⟩
  refine pk_loop (σ := (Nat → Int32) × (Nat → Int32) × (Nat → Int32)) (fun n i s => wX_init_157 post mc ms 19 390 f1 f2 f3 f4 f5 f6 f7 f8 n (nI i) (fun _ => 0) (fun _ => 0) (fun _ => 0) (fun _ => 0) s.1 s.2.1 s.2.2 (fun _ => 0) (fun _ => 0) (fun _ => 0) (fun _ => 0) (fun _ => 0) (fun _ => 0) (fun _ => 0) (fun _ => 0) (fun _ => 0) (fun _ => 0) (fun _ => 0) (fun _ => 0))
    (fun i s => 0 < i → s.1 0 = -1 ∧ s.2.1 0 = -1 ∧ s.2.2 0 = -1) 10 0 ((fun _ => 0), (fun _ => 0), (fun _ => 0)) (by omega) (fun h => absurd h (by omega)) ?_ ?_
  · intro n s h
    have h := h (by omega)
    exact pk_le 10 10 (fun _ => H _ _ _ h.1 h.2.1 h.2.2) (fun z => absurd z (by omega))
  · intro n i s hi h hw
    refine pk_le 10 i (fun z => absurd z (by omega)) (fun _ => ⟨pk_in i 10 hi, fun b5 e5 => ⟨pk_in i 10 hi, fun b6 e6 => ⟨pk_in i 10 hi, fun b7 e7 => nm_r (nI_1 i) (hw (b5, b6, b7) ?_)⟩⟩⟩)
    intro _
    subst e5 e6 e7
    exact ⟨rr_fill (nI_clamp (by omega)) (fun z => (h z).1), rr_fill (nI_clamp (by omega)) (fun z => (h z).2.1), rr_fill (nI_clamp (by omega)) (fun z => (h z).2.2)⟩
/-! ===== set, assign ===== -/
theorem rr_set {post : Int32 → St2 → Prop} {k : Nat} {x : Int32} (hk : k < 4) (H : ∀ r, post r (f1, f2, f3, f4, f5, f6, f7, f8, a1, a2, a3, a4, a5, a6, a7, a8, a9, a10, a11, a12, a13, a14, a15, a16, upd a17 k x, a18, a19)) :
    wpX_set post (f1, f2, f3, f4, f5, f6, f7, f8, a1, a2, a3, a4, a5, a6, a7, a8, a9, a10, a11, a12, a13, a14, a15, a16, a17, a18, a19) (nI k) x := by
  unfold wpX_set
  exact rr_badVar hk (br_t rfl ⟨pk_in k 4 hk, nm_r (by rw [nI_clamp (by omega)]) (H 0)⟩)
theorem rr_49 {post : Int32 → St2 → Prop} {x2 x3 x4 : Int32} {j : Nat} (hj : j < 3) (h : a1 0 = nI j)
    (H : ∀ r, post r (f1, f2, f3, f4, f5, f6, f7, f8, upd a1 0 (nI (j + 1)), upd a2 j x2, upd a3 j x3, upd a4 j x4, a5, a6, a7, a8, a9, a10, a11, a12, a13, a14, a15, a16, a17, a18, a19)) :
    wX_assign_49 post 0 x2 x3 x4 f1 f2 f3 f4 f5 f6 f7 f8 a1 a2 a3 a4 a5 a6 a7 a8 a9 a10 a11 a12 a13 a14 a15 a16 a17 a18 a19 := by
  unfold wX_assign_49
  rw [sb_cl0, h, rr_30, nI_1]
  refine ⟨pk_in 0 10 (by omega), pk_lt j 3 (fun _ => ⟨pk_in 0 10 (by omega), nm_e ?_⟩) (fun z => absurd z (by omega))⟩
  rw [nI_clamp (by omega)]
  exact ⟨pk_in j 30 (by omega), nm_e ⟨pk_in j 30 (by omega), nm_e ⟨pk_in j 30 (by omega), nm_e ⟨pk_in 0 10 (by omega), pk_in 0 10 (by omega), nm_e ⟨pk_in 0 10 (by omega), H _⟩⟩⟩⟩⟩
theorem rr_assign {post : Int32 → St2 → Prop} {x4 : Int32} {j t k m : Nat} (hj : j < 3) (h : a1 0 = nI j) (ht : t < 6) (hk : k < 4) (hm : m < 4) (hx : 1 ≤ t → t ≤ 3 → x4 = nI m)
    (H : ∀ r, post r (f1, f2, f3, f4, f5, f6, f7, f8, upd a1 0 (nI (j + 1)), upd a2 j (nI t), upd a3 j (nI k), upd a4 j x4, a5, a6, a7, a8, a9, a10, a11, a12, a13, a14, a15, a16, a17, a18, a19)) :
    wpX_assign post (f1, f2, f3, f4, f5, f6, f7, f8, a1, a2, a3, a4, a5, a6, a7, a8, a9, a10, a11, a12, a13, a14, a15, a16, a17, a18, a19) 0 (nI t) (nI k) x4 := by
  unfold wpX_assign
  refine rr_bad0 (br_t rfl (br_f (nI_pos (by omega)) (pk_le t 5 (fun _ => rr_badVar hk (br_t rfl ?_)) (fun z => absurd z (by omega)))))
  refine pk_lt t 1 (fun _ => rr_49 hj h H) (fun z1 => pk_lt 3 t (fun _ => rr_49 hj h H) (fun z3 => ?_))
  have e := hx z1 z3
  subst e
  exact rr_badVar hm (br_t rfl (rr_49 hj h H))
end
end
section
section
variable {f1 f2 f3 f4 f5 f6 f7 f8 : Int32} {a1 a2 a3 a4 a5 a6 a7 a8 a9 a10 a11 a12 a13 a14 a15 a16 a17 a18 a19 : Nat → Int32}
/-! ===== the order: block 0 alone ===== -/
theorem rr_201 {post : St2 → Prop} (h8 : a8 9 = 0) (H : ∀ b8 b9 : Nat → Int32, b8 0 = 0 → post (f1, 1, f3, f4, f5, f6, f7, f8, a1, a2, a3, a4, a5, a6, a7, b8, b9, a10, a11, a12, a13, a14, a15, a16, a17, a18, a19)) :
    wX_orderBlocks_201 post 9 f1 1 f3 f4 f5 f6 f7 f8 2 0 a1 a2 a3 a4 a5 a6 a7 a8 a9 a10 a11 a12 a13 a14 a15 a16 a17 a18 a19 := by
  refine br_f (by decide) ⟨pk_in 9 10 (by omega), pk_in 0 10 (by omega), fun b8 e8 => ?_⟩
  have e8' : b8 = upd a8 0 0 := by
    rw [e8, show ((9 : Int32) + 0).toNatClampNeg = 9 from rfl, h8]
    rfl
  have h0 : b8 0 = 0 := by rw [e8', pk_us]
  rw [sb_cl0, h0]
  refine ⟨pk_in 0 10 (by omega), pk_in 0 10 (by omega), fun b9 e9 => nm_r (e' := 1) rfl (br_t (by decide) (H b8 b9 h0))⟩
/-- side 0: the first way out is nowhere -/
theorem rr_45a {post : St2 → Prop} {n : Nat} {x1 x2 x4 : Int32} (hx : ¬ 40 ≤ x4) (h10 : a10 0 = 0) (h11 : a11 0 = 0) (h6 : a6 0 = -1)
    (H : ∀ b11 : Nat → Int32, b11 0 = 1 → wX_orderBlocks_45 post f1 f2 f3 f4 f5 f6 f7 f8 n x1 x2 1 (x4 + 1) a1 a2 a3 a4 a5 a6 a7 a8 a9 a10 b11 a12 a13 a14 a15 a16 a17 a18 a19) :
    wX_orderBlocks_45 post f1 f2 f3 f4 f5 f6 f7 f8 (n + 1) x1 x2 1 x4 a1 a2 a3 a4 a5 a6 a7 a8 a9 a10 a11 a12 a13 a14 a15 a16 a17 a18 a19 := by
  have z : ((1 : Int32) - 1).toNatClampNeg = 0 := rfl
  refine br_f hx (br_f (by decide) ?_)
  rw [z, h10, h11]
  refine ⟨pk_in 0 11 (by omega), nm_e ⟨pk_in 0 11 (by omega), nm_e ⟨pk_in 0 11 (by omega), pk_in 0 11 (by omega), fun b11 e11 => br_t rfl ⟨pk_in 0 10 (by omega), ?_⟩⟩⟩⟩
  rw [sb_cl0, h6]
  refine br_f (by decide) (br_t (by decide) (nm_e (H b11 ?_)))
  rw [e11, pk_us]
  rfl
/-- side 1: the second way out is nowhere -/
theorem rr_45b {post : St2 → Prop} {n : Nat} {x1 x2 x4 : Int32} (hx : ¬ 40 ≤ x4) (h10 : a10 0 = 0) (h11 : a11 0 = 1) (h7 : a7 0 = -1)
    (H : ∀ b11 : Nat → Int32, b11 0 = 2 → wX_orderBlocks_45 post f1 f2 f3 f4 f5 f6 f7 f8 n x1 x2 1 (x4 + 1) a1 a2 a3 a4 a5 a6 a7 a8 a9 a10 b11 a12 a13 a14 a15 a16 a17 a18 a19) :
    wX_orderBlocks_45 post f1 f2 f3 f4 f5 f6 f7 f8 (n + 1) x1 x2 1 x4 a1 a2 a3 a4 a5 a6 a7 a8 a9 a10 a11 a12 a13 a14 a15 a16 a17 a18 a19 := by
  have z : ((1 : Int32) - 1).toNatClampNeg = 0 := rfl
  refine br_f hx (br_f (by decide) ?_)
  rw [z, h10, h11]
  refine ⟨pk_in 0 11 (by omega), nm_e ⟨pk_in 0 11 (by omega), nm_e ⟨pk_in 0 11 (by omega), pk_in 0 11 (by omega), fun b11 e11 => br_f (by decide) (br_t rfl ⟨pk_in 0 10 (by omega), ?_⟩)⟩⟩⟩
  rw [sb_cl0, h7]
  refine br_f (by decide) (br_t (by decide) (nm_e (H b11 ?_)))
  rw [e11, pk_us]
  rfl
/-- side 2: block 0 is placed, the walk ends -/
theorem rr_45c {post : St2 → Prop} {n : Nat} {x2 x4 : Int32} (hx : ¬ 40 ≤ x4) (h10 : a10 0 = 0) (h11 : a11 0 = 2)
    (H : ∀ b8 b11 : Nat → Int32, b8 9 = 0 → wX_orderBlocks_45 post f1 f2 f3 f4 f5 f6 f7 f8 n 9 x2 0 (x4 + 1) a1 a2 a3 a4 a5 a6 a7 b8 a9 a10 b11 a12 a13 a14 a15 a16 a17 a18 a19) :
    wX_orderBlocks_45 post f1 f2 f3 f4 f5 f6 f7 f8 (n + 1) 10 x2 1 x4 a1 a2 a3 a4 a5 a6 a7 a8 a9 a10 a11 a12 a13 a14 a15 a16 a17 a18 a19 := by
  have z : ((1 : Int32) - 1).toNatClampNeg = 0 := rfl
  refine br_f hx (br_f (by decide) ?_)
  rw [z, h10, h11]
  refine ⟨pk_in 0 11 (by omega), nm_e ⟨pk_in 0 11 (by omega), nm_e ⟨pk_in 0 11 (by omega), pk_in 0 11 (by omega), fun b11 e11 => br_f (by decide) (br_f (by decide) ?_)⟩⟩⟩
  refine br_t rfl (nm_r (e' := 9) rfl ⟨pk_in 9 10 (by omega), fun b8 e8 => nm_r (e' := 0) rfl (nm_e (H b8 b11 ?_))⟩)
  rw [e8, show (9 : Int32).toNatClampNeg = 9 from rfl, pk_us]
theorem rr_45d {post : St2 → Prop} {n : Nat} {x2 x4 : Int32} (hx : ¬ 40 ≤ x4) (h8 : a8 9 = 0) (H : ∀ b8 b9 : Nat → Int32, b8 0 = 0 → post (f1, 1, f3, f4, f5, f6, f7, f8, a1, a2, a3, a4, a5, a6, a7, b8, b9, a10, a11, a12, a13, a14, a15, a16, a17, a18, a19)) :
    wX_orderBlocks_45 post f1 f2 f3 f4 f5 f6 f7 f8 (n + 1) 9 x2 0 x4 a1 a2 a3 a4 a5 a6 a7 a8 a9 a10 a11 a12 a13 a14 a15 a16 a17 a18 a19 :=
  br_f hx (br_t (by decide) (nm_r (e' := 1) rfl ⟨2, rr_201 h8 H⟩))
theorem rr_orderBlocks {post : St2 → Prop} (h6 : a6 0 = -1) (h7 : a7 0 = -1)
    (H : ∀ b8 b9 b10 b11 : Nat → Int32, b8 0 = 0 → post (f1, 1, f3, f4, f5, f6, f7, f8, a1, a2, a3, a4, a5, a6, a7, b8, b9, b10, b11, a12, a13, a14, a15, a16, a17, a18, a19)) :
    wpX_orderBlocks post (f1, f2, f3, f4, f5, f6, f7, f8, a1, a2, a3, a4, a5, a6, a7, a8, a9, a10, a11, a12, a13, a14, a15, a16, a17, a18, a19) := by
  unfold wpX_orderBlocks
  refine pk_loop (fun n i s => wX_orderBlocks_2 post f1 f2 f3 f4 f5 f6 f7 f8 n (nI i) a1 a2 a3 a4 a5 a6 a7 a8 s a10 a11 a12 a13 a14 a15 a16 a17 a18 a19) (fun _ _ => True) 10 0 a9 (by omega) trivial ?_ ?_
  · intro n s _
    refine pk_le 10 10 (fun _ => fun b10 e10 b11 e11 => ⟨4, ?_⟩) (fun z => absurd z (by omega))
    have h10 : b10 0 = 0 := by rw [e10, pk_us]
    have h11 : b11 0 = 0 := by rw [e11, pk_us]
    exact rr_45a (by decide) h10 h11 h6 (fun c1 k1 => rr_45b (by decide) h10 k1 h7 (fun c2 k2 => rr_45c (by decide) h10 k2 (fun b8 c3 k8 => rr_45d (by decide) k8 (fun b8' b9' k => H b8' b9' b10 c3 k))))
  · intro n i s hi _ hw
    exact pk_le 10 i (fun z => absurd z (by omega)) (fun _ => ⟨pk_in i 10 hi, nm_e (nm_r (nI_1 i) (hw _ trivial))⟩)
/-! ===== no loops, one word of code ===== -/
theorem rr_findLoops {post : St2 → Prop} (h6 : a6 0 = -1) (h7 : a7 0 = -1) (h8 : a8 0 = 0) (H : post (f1, 1, 0, f4, f5, f6, f7, f8, a1, a2, a3, a4, a5, a6, a7, a8, a9, a10, a11, a12, a13, a14, a15, a16, a17, a18, a19)) :
    wpX_findLoops post (f1, 1, f3, f4, f5, f6, f7, f8, a1, a2, a3, a4, a5, a6, a7, a8, a9, a10, a11, a12, a13, a14, a15, a16, a17, a18, a19) := by
  unfold wpX_findLoops
  refine ⟨2, br_f (by decide) ?_⟩
  rw [sb_cl0, h8, sb_cl0, h6, h7]
  exact ⟨pk_in 0 10 (by omega), pk_in 0 10 (by omega), nm_e ⟨pk_in 0 10 (by omega), pk_in 0 10 (by omega), nm_e (br_t (by decide) (br_t (by decide) (nm_r (e' := 1) rfl (br_t (by decide) H))))⟩⟩
theorem rr_widenOnce {post : Int32 → St2 → Prop} (H : post 0 (f1, f2, 0, f4, f5, f6, f7, f8, a1, a2, a3, a4, a5, a6, a7, a8, a9, a10, a11, a12, a13, a14, a15, a16, a17, a18, a19)) : wpX_widenOnce post (f1, f2, 0, f4, f5, f6, f7, f8, a1, a2, a3, a4, a5, a6, a7, a8, a9, a10, a11, a12, a13, a14, a15, a16, a17, a18, a19) := by
  unfold wpX_widenOnce
  exact ⟨1, br_t (by decide) ⟨rfl, H⟩⟩
theorem rr_endLoop {post : St2 → Prop} {x y : Int32} (H : post (f1, f2, 0, f4, f5, f6, f7, f8, a1, a2, a3, a4, a5, a6, a7, a8, a9, a10, a11, a12, a13, a14, a15, a16, a17, a18, a19)) : wpX_endLoop post (f1, f2, 0, f4, f5, f6, f7, f8, a1, a2, a3, a4, a5, a6, a7, a8, a9, a10, a11, a12, a13, a14, a15, a16, a17, a18, a19) x y := by
  unfold wpX_endLoop
  exact ⟨1, br_t (by decide) H⟩
theorem rr_put0 {post : St2 → Prop} {x y : Int32} (H : post (f1, f2, f3, 1, f5, f6, f7, f8, a1, a2, a3, a4, a5, a6, a7, a8, a9, a10, a11, a12, a13, upd a14 0 x, upd a15 0 y, a16, a17, a18, a19)) : wpX_put post (f1, f2, f3, 0, f5, f6, f7, f8, a1, a2, a3, a4, a5, a6, a7, a8, a9, a10, a11, a12, a13, a14, a15, a16, a17, a18, a19) x y := by
  unfold wpX_put
  exact br_t (by decide) ⟨pk_in 0 64 (by omega), nm_r (by rw [sb_cl0]) ⟨pk_in 0 64 (by omega), nm_r (by rw [sb_cl0]) (nm_r (e' := 1) rfl H)⟩⟩
theorem rr_emit {post : St2 → Prop} (H : post (f1, 1, 0, 1, f5, f6, f7, f8, a1, a2, a3, a4, a5, a6, a7, a8, a9, a10, a11, a12, a13, upd a14 0 1, upd a15 0 0, a16, a17, a18, a19)) : wpX_emit post (f1, 1, 0, f4, f5, f6, f7, f8, a1, a2, a3, a4, a5, a6, a7, a8, a9, a10, a11, a12, a13, a14, a15, a16, a17, a18, a19) := by
  unfold wpX_emit
  refine ⟨2, br_f (by decide) ⟨1, br_t (by decide) (rr_put0 ?_)⟩⟩
  refine ⟨2, br_f (by decide) (rr_endLoop ?_)⟩
  exact nm_r (e' := -1) rfl (br_t (by decide) (nm_r (e' := 1) rfl (br_t (by decide) H)))
theorem rr_prepare {post : St2 → Prop} (h6 : a6 0 = -1) (h7 : a7 0 = -1)
    (H : ∀ b8 b9 b10 b11 b14 b15 : Nat → Int32, b8 0 = 0 → b14 0 = 1 → b15 0 = 0 → post (1, 1, 0, 1, f5, f6, f7, f8, a1, a2, a3, a4, a5, a6, a7, b8, b9, b10, b11, a12, a13, b14, b15, a16, a17, a18, a19)) :
    wpX_prepare post (0, f2, f3, f4, f5, f6, f7, f8, a1, a2, a3, a4, a5, a6, a7, a8, a9, a10, a11, a12, a13, a14, a15, a16, a17, a18, a19) := by
  unfold wpX_prepare
  refine br_t rfl (rr_orderBlocks h6 h7 (fun b8 b9 b10 b11 h8 => ?_))
  refine rr_findLoops h6 h7 h8 ?_
  refine ⟨2, br_f (by decide) (br_f (by decide) (rr_widenOnce ?_))⟩
  refine nm_r (e' := 1) rfl (br_f (by decide) (br_t rfl ?_))
  exact rr_emit (H b8 b9 b10 b11 _ _ h8 pk_us pk_us)
end
end
section
/-! ===== running: the pure picture ===== -/
/-- what is due: t the assignment, l the variable's own value, y the other one's, w the operand -/
def rr_due (t : Nat) (l y w : Int32) : Int32 := if t = 0 then w else if t = 1 then l + y else if t = 2 then l - y else if t = 3 then l * y else if t = 4 then l + w else l
/-- block 0: assignment t to variable k (operand m or w), then an output of k; it stops -/
def rr_G (t k m : Nat) (w : Int32) (a1 a2 a3 a4 a5 a6 a7 : Nat → Int32) : Prop :=
  a1 0 = 2 ∧ a2 0 = nI t ∧ a2 1 = 5 ∧ a3 0 = nI k ∧ a3 1 = nI k ∧ (1 ≤ t → t ≤ 3 → a4 0 = nI m) ∧ (t = 0 ∨ t = 4 → a4 0 = w) ∧ a5 0 = -1 ∧ a6 0 = -1 ∧ a7 0 = -1
/-- after the run: the variable, the count of outputs, the outputs -/
def rr_fin (t k : Nat) (d l g8 : Int32) (a17 a19 : Nat → Int32) : Prop :=
  a17 k = d ∧ ((t = 5 ∧ g8 = 2 ∧ a19 0 = l ∧ a19 1 = d) ∨ (t ≠ 5 ∧ g8 = 1 ∧ a19 0 = d))
section
variable {f1 f2 f3 f4 f5 f6 f7 f8 : Int32} {a1 a2 a3 a4 a5 a6 a7 a8 a9 a10 a11 a12 a13 a14 a15 a16 a17 a18 a19 : Nat → Int32}
/-! ===== one assignment ===== -/
theorem rr_out {post : St2 → Prop} {p j k : Nat} (hp : p < 30) (hj : j < 16) (hk : k < 4) (h2 : a2 p = 5) (h3 : a3 p = nI k)
    (H : post (f1, f2, f3, f4, f5, f6, f7, nI (j + 1), a1, a2, a3, a4, a5, a6, a7, a8, a9, a10, a11, a12, a13, a14, a15, a16, a17, a18, upd a19 j (a17 k))) : wpX_carryOut post (f1, f2, f3, f4, f5, f6, f7, nI j, a1, a2, a3, a4, a5, a6, a7, a8, a9, a10, a11, a12, a13, a14, a15, a16, a17, a18, a19) (nI p) := by
  unfold wpX_carryOut
  dsimp only
  rw [nI_clamp (show p < 2 ^ 31 by omega), h2, h3]
  refine ⟨pk_in p 30 hp, nm_e ⟨pk_in p 30 hp, nm_e ⟨pk_in p 30 hp, nm_e (br_f (by decide) (br_t (by decide) ⟨pk_in k 4 hk, ?_⟩))⟩⟩⟩
  rw [rr_m15 j hj, nI_clamp (show j < 2 ^ 31 by omega), nI_clamp (show k < 2 ^ 31 by omega), nI_1]
  exact ⟨pk_in j 16 hj, nm_e (nm_e H)⟩
theorem rr_arith {post : St2 → Prop} {p t k m : Nat} {w : Int32} (hp : p < 30) (ht : t < 5) (hk : k < 4) (hm : m < 4) (h2 : a2 p = nI t) (h3 : a3 p = nI k) (h4 : 1 ≤ t → t ≤ 3 → a4 p = nI m) (hw : t = 0 ∨ t = 4 → a4 p = w)
    (H : post (f1, f2, f3, f4, f5, f6, f7, f8, a1, a2, a3, a4, a5, a6, a7, a8, a9, a10, a11, a12, a13, a14, a15, a16, upd a17 k (rr_due t (a17 k) (a17 m) w), a18, a19)) : wpX_carryOut post (f1, f2, f3, f4, f5, f6, f7, f8, a1, a2, a3, a4, a5, a6, a7, a8, a9, a10, a11, a12, a13, a14, a15, a16, a17, a18, a19) (nI p) := by
  unfold wpX_carryOut
  dsimp only
  rw [nI_clamp (show p < 2 ^ 31 by omega), h2, h3]
  refine ⟨pk_in p 30 hp, nm_e ⟨pk_in p 30 hp, nm_e ⟨pk_in p 30 hp, nm_e (br_f (nI_pos (by omega)) (pk_lt 4 t (fun z => absurd z (by omega)) (fun _ => ?_)))⟩⟩⟩
  have ck : (nI k).toNatClampNeg = k := nI_clamp (by omega)
  have cm : (nI m).toNatClampNeg = m := nI_clamp (by omega)
  refine pk_eq t 0 (fun e => ?_) (fun n0 => pk_eq t 1 (fun e => ?_) (fun n1 => pk_eq t 2 (fun e => ?_) (fun n2 => pk_eq t 3 (fun e => ?_) (fun n3 => pk_eq t 4 (fun e => ?_) (fun n4 => absurd ht (by omega))))))
  · subst e
    rw [hw (Or.inl rfl), ck]
    exact ⟨pk_in k 4 hk, nm_e H⟩
  · subst e
    rw [h4 (by omega) (by omega), ck, cm]
    exact ⟨pk_in k 4 hk, pk_in m 4 hm, pk_in k 4 hk, nm_e H⟩
  · subst e
    rw [h4 (by omega) (by omega), ck, cm]
    exact ⟨pk_in k 4 hk, pk_in m 4 hm, pk_in k 4 hk, nm_e H⟩
  · subst e
    rw [h4 (by omega) (by omega), ck, cm]
    exact ⟨pk_in k 4 hk, pk_in m 4 hm, pk_in k 4 hk, nm_e H⟩
  · subst e
    rw [hw (Or.inr rfl), ck]
    exact ⟨pk_in k 4 hk, pk_in k 4 hk, nm_e H⟩
/-! ===== block 0 is entered ===== -/
theorem rr_29e {post : St2 → Prop} {n : Nat} (h1 : a1 0 = 2) (h5 : a5 0 = -1) (h6 : a6 0 = -1) (H : post (f1, f2, f3, f4, -1, f6, f7, f8, a1, a2, a3, a4, a5, a6, a7, a8, a9, a10, a11, a12, a13, a14, a15, a16, a17, a18, a19)) :
    wX_enter_29 post 0 (n + 1) 2 f1 f2 f3 f4 f5 f6 f7 f8 a1 a2 a3 a4 a5 a6 a7 a8 a9 a10 a11 a12 a13 a14 a15 a16 a17 a18 a19 := by
  unfold wX_enter_29
  rw [sb_cl0, h1, h5, h6]
  exact ⟨pk_in 0 10 (by omega), br_t (by decide) ⟨pk_in 0 10 (by omega), nm_e ⟨pk_in 0 10 (by omega), br_t (by decide) (br_f (by decide) H)⟩⟩⟩
theorem rr_29o {post : St2 → Prop} {n i j k : Nat} (hi : i < 2) (hj : j < 16) (hk : k < 4) (h1 : a1 0 = 2) (h2 : a2 i = 5) (h3 : a3 i = nI k)
    (H : wX_enter_29 post 0 n (nI (i + 1)) f1 f2 f3 f4 f5 f6 f7 (nI (j + 1)) a1 a2 a3 a4 a5 a6 a7 a8 a9 a10 a11 a12 a13 a14 a15 a16 a17 a18 (upd a19 j (a17 k))) :
    wX_enter_29 post 0 (n + 1) (nI i) f1 f2 f3 f4 f5 f6 f7 (nI j) a1 a2 a3 a4 a5 a6 a7 a8 a9 a10 a11 a12 a13 a14 a15 a16 a17 a18 a19 := by
  unfold wX_enter_29
  rw [sb_cl0, h1]
  refine ⟨pk_in 0 10 (by omega), br_f ?_ (rr_out (by omega) hj hk h2 h3 ?_)⟩
  · rw [rr_30]
    exact nI_ge (b := 2) hi (by decide)
  · exact nm_r (nI_1 i) H
theorem rr_29a {post : St2 → Prop} {n t k m : Nat} {w : Int32} (ht : t < 5) (hk : k < 4) (hm : m < 4) (h1 : a1 0 = 2) (h2 : a2 0 = nI t) (h3 : a3 0 = nI k) (h4 : 1 ≤ t → t ≤ 3 → a4 0 = nI m) (hw : t = 0 ∨ t = 4 → a4 0 = w)
    (H : wX_enter_29 post 0 n 1 f1 f2 f3 f4 f5 f6 f7 f8 a1 a2 a3 a4 a5 a6 a7 a8 a9 a10 a11 a12 a13 a14 a15 a16 (upd a17 k (rr_due t (a17 k) (a17 m) w)) a18 a19) :
    wX_enter_29 post 0 (n + 1) 0 f1 f2 f3 f4 f5 f6 f7 f8 a1 a2 a3 a4 a5 a6 a7 a8 a9 a10 a11 a12 a13 a14 a15 a16 a17 a18 a19 := by
  unfold wX_enter_29
  rw [sb_cl0, h1]
  refine ⟨pk_in 0 10 (by omega), br_f (by decide) (rr_arith (p := 0) (by omega) ht hk hm h2 h3 h4 hw ?_)⟩
  exact nm_r (e' := 1) rfl H
theorem rr_enter {post : St2 → Prop} {t k m : Nat} {w : Int32} (ht : t < 6) (hk : k < 4) (hm : m < 4) (G : rr_G t k m w a1 a2 a3 a4 a5 a6 a7)
    (H : ∀ (g6 g8 : Int32) (b17 b18 b19 : Nat → Int32), rr_fin t k (rr_due t (a17 k) (a17 m) w) (a17 k) g8 b17 b19 → post (f1, f2, f3, f4, -1, g6, 0, g8, a1, a2, a3, a4, a5, a6, a7, a8, a9, a10, a11, a12, a13, a14, a15, a16, b17, b18, b19)) :
    wpX_enter post (f1, f2, f3, f4, f5, f6, f7, 0, a1, a2, a3, a4, a5, a6, a7, a8, a9, a10, a11, a12, a13, a14, a15, a16, a17, a18, a19) 0 := by
  obtain ⟨h1, h2, h2', h3, h3', h4, hw, h5, h6, h7⟩ := G
  unfold wpX_enter
  refine nm_e ⟨pk_in 0 10 (by omega), pk_in 0 10 (by omega), fun b18 _ => nm_r (e' := 0) rfl ⟨3, ?_⟩⟩
  by_cases e : t = 5
  · have h2 : a2 0 = 5 := by rw [h2, e]; rfl
    refine rr_29o (i := 0) (j := 0) (by omega) (by omega) hk h1 h2 h3 ?_
    refine rr_29o (i := 1) (j := 1) (by omega) (by omega) hk h1 h2' h3' ?_
    refine rr_29e h1 h5 h6 (H _ _ _ _ _ ?_)
    have d : rr_due t (a17 k) (a17 m) w = a17 k := by subst e; rfl
    rw [d]
    exact ⟨rfl, Or.inl ⟨e, rfl, by rw [pk_un (by omega), pk_us], pk_us⟩⟩
  · refine rr_29a (t := t) (m := m) (w := w) (by omega) hk hm h1 h2 h3 h4 hw ?_
    refine rr_29o (i := 1) (j := 0) (by omega) (by omega) hk h1 h2' h3' ?_
    refine rr_29e h1 h5 h6 (H _ _ _ _ _ ?_)
    exact ⟨pk_us, Or.inr ⟨e, rfl, by rw [pk_us, pk_us]⟩⟩
theorem rr_perform {post : Int32 → St2 → Prop} {t k m : Nat} {w : Int32} (ht : t < 6) (hk : k < 4) (hm : m < 4) (G : rr_G t k m w a1 a2 a3 a4 a5 a6 a7) (h8 : a8 0 = 0) (h14 : a14 0 = 1)
    (H : ∀ (g6 g8 : Int32) (b17 b18 b19 : Nat → Int32), rr_fin t k (rr_due t (a17 k) (a17 m) w) (a17 k) g8 b17 b19 → post 1 (f1, f2, f3, f4, -1, g6, 0, g8, a1, a2, a3, a4, a5, a6, a7, a8, a9, a10, a11, a12, a13, a14, a15, a16, b17, b18, b19)) :
    wpX_perform post (f1, f2, f3, f4, 0, f6, f7, 0, a1, a2, a3, a4, a5, a6, a7, a8, a9, a10, a11, a12, a13, a14, a15, a16, a17, a18, a19) 0 0 := by
  unfold wpX_perform
  dsimp only
  rw [sb_cl0, h14, h8]
  exact ⟨pk_in 0 64 (by omega), br_t rfl (br_t rfl ⟨pk_in 0 10 (by omega), rr_enter ht hk hm G H⟩)⟩
theorem rr_44 {post : Int32 → St2 → Prop} {t k m : Nat} {w : Int32} (ht : t < 6) (hk : k < 4) (hm : m < 4) (G : rr_G t k m w a1 a2 a3 a4 a5 a6 a7) (h8 : a8 0 = 0) (h14 : a14 0 = 1) (h15 : a15 0 = 0)
    (H : ∀ (g6 g8 : Int32) (b17 b18 b19 : Nat → Int32), rr_fin t k (rr_due t (a17 k) (a17 m) w) (a17 k) g8 b17 b19 → post 1 (f1, f2, f3, 1, -1, g6, 0, g8, a1, a2, a3, a4, a5, a6, a7, a8, a9, a10, a11, a12, a13, a14, a15, a16, b17, b18, b19)) :
    wX_run_44 post 2 0 0 f1 f2 f3 1 0 0 f7 0 a1 a2 a3 a4 a5 a6 a7 a8 a9 a10 a11 a12 a13 a14 a15 a16 a17 a18 a19 := by
  refine br_f (by decide) (br_f (by decide) (br_f (by decide) (br_f (by decide) ⟨pk_in 0 64 (by omega), ?_⟩)))
  rw [sb_cl0, h15]
  refine rr_perform ht hk hm G h8 h14 (fun g6 g8 b17 b18 b19 h => ?_)
  exact nm_r (e' := 1) rfl (br_f (by decide) (br_t (by decide) (br_f (by decide) (H g6 g8 b17 b18 b19 h))))
theorem rr_run {post : Int32 → St2 → Prop} {t k m : Nat} {w : Int32} (ht : t < 6) (hk : k < 4) (hm : m < 4) (G : rr_G t k m w a1 a2 a3 a4 a5 a6 a7)
    (H : ∀ (g6 g8 : Int32) (b8 b9 b10 b11 b14 b15 b17 b18 b19 : Nat → Int32), rr_fin t k (rr_due t (a17 k) (a17 m) w) (a17 k) g8 b17 b19 → post 1 (1, 1, 0, 1, -1, g6, 0, g8, a1, a2, a3, a4, a5, a6, a7, b8, b9, b10, b11, a12, a13, b14, b15, a16, b17, b18, b19)) :
    wpX_run post (0, f2, f3, f4, f5, f6, f7, f8, a1, a2, a3, a4, a5, a6, a7, a8, a9, a10, a11, a12, a13, a14, a15, a16, a17, a18, a19) := by
  unfold wpX_run
  refine rr_prepare G.2.2.2.2.2.2.2.2.1 G.2.2.2.2.2.2.2.2.2 (fun b8 b9 b10 b11 b14 b15 h8 h14 h15 => ?_)
  refine pk_loop (fun n i s => wX_run_6 post 1 1 0 1 f5 f6 f7 f8 n (nI i) a1 a2 a3 a4 a5 a6 a7 b8 b9 b10 b11 a12 a13 b14 b15 a16 a17 s a19) (fun _ _ => True) 10 0 a18 (by omega) trivial ?_ ?_
  · intro n s _
    exact pk_le 10 10 (fun _ => ⟨2, rr_44 ht hk hm G h8 h14 h15 (fun g6 g8 b17 b18 b19 h => H g6 g8 b8 b9 b10 b11 b14 b15 b17 b18 b19 h)⟩) (fun z => absurd z (by omega))
  · intro n i s hi _ hw
    exact pk_le 10 i (fun z => absurd z (by omega)) (fun _ => ⟨pk_in i 10 hi, nm_e (nm_r (nI_1 i) (hw _ trivial))⟩)
end
end
section
section
variable {f1 f2 f3 f4 f5 f6 f7 f8 : Int32} {a1 a2 a3 a4 a5 a6 a7 a8 a9 a10 a11 a12 a13 a14 a15 a16 a17 a18 a19 : Nat → Int32}
/-! ===== the questions ===== -/
theorem rr_get {post : Int32 → Prop} {k : Nat} (hk : k < 4) (H : post (a17 k)) : wpX_get post (f1, f2, f3, f4, f5, f6, f7, f8, a1, a2, a3, a4, a5, a6, a7, a8, a9, a10, a11, a12, a13, a14, a15, a16, a17, a18, a19) (nI k) := by
  unfold wpX_get
  refine rr_badVar hk (br_t rfl ⟨pk_in k 4 hk, ?_⟩)
  rw [nI_clamp (by omega)]
  exact H
theorem rr_o10 {post : Int32 → Prop} (H : post (a19 0)) : wpX_output post (f1, f2, f3, f4, f5, f6, f7, 1, a1, a2, a3, a4, a5, a6, a7, a8, a9, a10, a11, a12, a13, a14, a15, a16, a17, a18, a19) 0 := by
  unfold wpX_output
  refine br_f (by decide) (br_f (by decide) (br_t (by decide) ⟨pk_in 0 16 (by omega), ?_⟩))
  rw [show ((((1 : Int32) - 1) - 0) &&& 15).toNatClampNeg = 0 from rfl]
  exact H
theorem rr_o11 {post : Int32 → Prop} (H : post 0) : wpX_output post (f1, f2, f3, f4, f5, f6, f7, 1, a1, a2, a3, a4, a5, a6, a7, a8, a9, a10, a11, a12, a13, a14, a15, a16, a17, a18, a19) 1 := by
  unfold wpX_output
  exact br_f (by decide) (br_f (by decide) (br_f (by decide) H))
theorem rr_o20 {post : Int32 → Prop} (H : post (a19 1)) : wpX_output post (f1, f2, f3, f4, f5, f6, f7, 2, a1, a2, a3, a4, a5, a6, a7, a8, a9, a10, a11, a12, a13, a14, a15, a16, a17, a18, a19) 0 := by
  unfold wpX_output
  refine br_f (by decide) (br_f (by decide) (br_t (by decide) ⟨pk_in 1 16 (by omega), ?_⟩))
  rw [show ((((2 : Int32) - 1) - 0) &&& 15).toNatClampNeg = 1 from rfl]
  exact H
theorem rr_o21 {post : Int32 → Prop} (H : post (a19 0)) : wpX_output post (f1, f2, f3, f4, f5, f6, f7, 2, a1, a2, a3, a4, a5, a6, a7, a8, a9, a10, a11, a12, a13, a14, a15, a16, a17, a18, a19) 1 := by
  unfold wpX_output
  refine br_f (by decide) (br_f (by decide) (br_t (by decide) ⟨pk_in 0 16 (by omega), ?_⟩))
  rw [show ((((2 : Int32) - 1) - 1) &&& 15).toNatClampNeg = 0 from rfl]
  exact H
/-! ===== the law, from its end ===== -/
theorem rr_240 {post : Int32 → St0 → Prop} {mc ms kc ks : Nat} {z0 z1 : Int32} (e : z1 = z0) (H : post 1 ()) :
    wL_lawOf_240 post mc ms z0 z1 kc ks f1 f2 f3 f4 f5 f6 0 f8 a1 a2 a3 a4 a5 a6 a7 a8 a9 a10 a11 a12 a13 a14 a15 a16 a17 a18 a19 := by
  unfold wL_lawOf_240 wpX_last
  exact br_t e (br_t rfl H)
theorem rr_167 {post : Int32 → St0 → Prop} {mc ms kc ks : Nat} {z0 w : Int32} {t k m : Nat} (ht : t < 6) (hk : k < 4) (hm : m < 4) (G : rr_G t k m w a1 a2 a3 a4 a5 a6 a7)
    (hz : z0 = rr_due t (a17 k) (a17 m) w) (H : post 1 ()) :
    wL_lawOf_167 post mc ms (nI t) (nI k) (a17 k) z0 kc ks 0 f2 f3 f4 f5 f6 f7 f8 a1 a2 a3 a4 a5 a6 a7 a8 a9 a10 a11 a12 a13 a14 a15 a16 a17 a18 a19 := by
  unfold wL_lawOf_167
  refine rr_run ht hk hm G (fun g6 g8 b8 b9 b10 b11 b14 b15 b17 b18 b19 h => ?_)
  obtain ⟨hv, ho⟩ := h
  refine br_t rfl (rr_get hk (br_t (hv.trans hz.symm) ?_))
  rcases ho with ⟨e, e8, o0, o1⟩ | ⟨e, e8, o0⟩
  · subst e e8
    refine rr_o20 (br_t (o1.trans hz.symm) ?_)
    refine br_t rfl (br_t rfl (rr_o21 (br_t rfl (rr_240 o0 H))))
  · subst e8
    have n5 : ¬ nI t = 5 := fun z => e ((nI_eq (a := t) (b := 5) (by omega) (by omega)).mp z)
    refine rr_o10 (br_t (o0.trans hz.symm) ?_)
    refine br_f n5 (br_t rfl (rr_o11 (br_f n5 (rr_240 rfl H))))
theorem rr_102 {post : Int32 → St0 → Prop} {mc ms kc ks : Nat} {w l y : Int32} {t k m : Nat} (ht : t < 6) (hk : k < 4) (hm : m < 4) (G : rr_G t k m w a1 a2 a3 a4 a5 a6 a7)
    (hl : l = a17 k) (hy : y = a17 m) (H : post 1 ()) :
    wL_lawOf_102 post mc ms y w (nI t) (nI k) l kc ks 0 f2 f3 f4 f5 f6 f7 f8 a1 a2 a3 a4 a5 a6 a7 a8 a9 a10 a11 a12 a13 a14 a15 a16 a17 a18 a19 := by
  subst hl hy
  unfold wL_lawOf_102
  refine pk_eq t 0 (fun e => ?_) (fun n0 => pk_eq t 1 (fun e => ?_) (fun n1 => pk_eq t 2 (fun e => ?_) (fun n2 => pk_eq t 3 (fun e => ?_) (fun n3 => pk_eq t 4 (fun e => ?_) (fun n4 => ?_)))))
  · exact rr_167 ht hk hm G (by subst e; rfl) H
  · exact rr_167 ht hk hm G (by subst e; rfl) H
  · exact rr_167 ht hk hm G (by subst e; rfl) H
  · exact rr_167 ht hk hm G (by subst e; rfl) H
  · exact rr_167 ht hk hm G (by subst e; rfl) H
  · have e : t = 5 := by omega
    exact rr_167 ht hk hm G (by subst e; rfl) H
theorem rr_75 {post : Int32 → St0 → Prop} {mc ms kc ks : Nat} {x y w z0 : Int32} {t k m : Nat} (ht : t < 6) (hk : k < 4) (hm : m < 4)
    (h1 : a1 0 = 0) (h5 : a5 0 = -1) (h6 : a6 0 = -1) (h7 : a7 0 = -1) (hx : ¬ k = m → a17 k = x) (hy : a17 m = y)
    (h4 : 1 ≤ t → t ≤ 3 → z0 = nI m) (hw : t = 0 ∨ t = 4 → z0 = w) (H : post 1 ()) :
    wL_lawOf_75 post mc ms x y w (nI t) (nI k) (nI m) z0 (nI k) (nI t) 0 kc ks 0 f2 f3 f4 f5 f6 f7 f8 a1 a2 a3 a4 a5 a6 a7 a8 a9 a10 a11 a12 a13 a14 a15 a16 a17 a18 a19 := by
  unfold wL_lawOf_75
  refine rr_assign (j := 0) (by omega) h1 ht hk hm h4 (fun _ => ?_)
  refine rr_assign (j := 1) (t := 5) (m := m) (by omega) pk_us (by omega) hk hm (fun _ z => absurd z (by omega)) (fun _ => ?_)
  have G : rr_G t k m w (upd (upd a1 0 (nI (0 + 1))) 0 (nI (1 + 1))) (upd (upd a2 0 (nI t)) 1 (nI 5)) (upd (upd a3 0 (nI k)) 1 (nI k)) (upd (upd a4 0 z0) 1 w) a5 a6 a7 :=
    ⟨pk_us, by rw [pk_un (by omega), pk_us], pk_us, by rw [pk_un (by omega), pk_us], pk_us, fun u v => by rw [pk_un (by omega), pk_us]; exact h4 u v, fun u => by rw [pk_un (by omega), pk_us]; exact hw u, h5, h6, h7⟩
  refine pk_eq k m (fun e => ?_) (fun e => ?_)
  · exact rr_102 ht hk hm G (by rw [e]; exact hy.symm) hy.symm H
  · exact rr_102 ht hk hm G (hx e).symm hy.symm H
end
theorem rr_lawOf {post : Int32 → St0 → Prop} {mc ms : Nat} {p0 p1 p2 p3 p4 : Int32} (hc : 20 ≤ mc) (hs : 417 ≤ ms) (H : post 1 ()) : wpL_lawOf post mc ms () p0 p1 p2 p3 p4 := by
  unfold wpL_lawOf
  refine ⟨by omega, by omega, 19, 390, by omega, by omega, rr_init (by omega) (by omega) (fun b5 b6 b7 h5 h6 h7 => ⟨by decide, ?_⟩)⟩
  obtain ⟨j, hj, ej⟩ := pk_andE p0 (m := 2147483647) 31 (by decide)
  obtain ⟨k, hk, ek⟩ := pk_andE p4 (m := 3) 2 (by decide)
  obtain ⟨m, hm, em⟩ := pk_andE (p4 >>> ((2 : Int32) &&& 31)) (m := 3) 2 (by decide)
  have hk : k < 4 := hk
  have hm : m < 4 := hm
  have et : (p0 &&& 2147483647) - (p0 &&& 2147483647) / 6 * 6 = nI (j % 6) := by
    rw [ej]
    exact pk_rem hj (d := 6) (by omega) (by omega)
  have ht : j % 6 < 6 := Nat.mod_lt _ (by omega)
  refine nm_r et (nm_r ek (nm_r em ?_))
  refine rr_set hk (fun _ => rr_set hm (fun _ => ?_))
  have hx : ¬ k = m → upd (upd (fun _ => 0) k p1) m p2 k = p1 := fun e => by rw [pk_un e, pk_us]
  refine pk_lt (j % 6) 1 (fun z => ?_) (fun z1 => pk_lt 3 (j % 6) (fun z => ?_) (fun z3 => ?_))
  · exact rr_75 ht hk hm rfl h5 h6 h7 hx pk_us (fun u v => absurd u (by omega)) (fun _ => rfl) H
  · exact rr_75 ht hk hm rfl h5 h6 h7 hx pk_us (fun u v => absurd v (by omega)) (fun _ => rfl) H
  · exact rr_75 ht hk hm rfl h5 h6 h7 hx pk_us (fun u v => rfl) (fun u => absurd u (by omega)) H
theorem rr_cell {post : Int32 → Prop} {L : Nat} {xs : Nat → Int32} {i : Nat} {p : Int32} (hL : L ≤ 5) (hi : i < 5) (hp : p = nI i) (H : ∀ r, post r) : wpL_cellAt post L xs () p := by
  subst hp
  exact pk_le L i (fun _ => H _) (fun z => ⟨pk_in i L z, H _⟩)
end
section
theorem i_vc (xs : Nat → Int32) (L : Nat) (hL : L ≤ 5) : wpL_law (fun r => r = 1) L xs := by
  unfold wpL_law
  exact rr_cell (i := 0) hL (by omega) rfl (fun _ => rr_cell (i := 1) hL (by omega) rfl (fun _ => rr_cell (i := 2) hL (by omega) rfl (fun _ => rr_cell (i := 3) hL (by omega) rfl (fun _ => rr_cell (i := 4) hL (by omega) rfl (fun _ => ⟨250, 3984, by omega, by omega, rr_lawOf (by omega) (by omega) rfl⟩)))))
end
