section
/-! ===== the picture: a variable is in range; the forest of classes has depth one ===== -/
def ds_In (x : Int32) : Prop := ¬ x < 0 ∧ ¬ 11 < x
def ds_F (p : Nat → Nat) (a : Nat → Int32) : Prop := ∀ j, j < 12 → p j < 12 ∧ a j = nI (p j) ∧ p (p j) = p j
theorem ds_b8 : ∀ n, n < 12 → (nI n).toInt8.toInt32 = nI n := by decide +kernel
theorem ds_k8 : ∀ n, n < 8 → (nI n).toInt8.toInt32 = nI n := by decide +kernel
theorem ds_nar {n : Nat} (h : n < 12) : vp_nar .byte (nI n) = nI n := by rw [vp_nar_byte, ds_b8 n h]
theorem ds_same {a : Nat → Int32} {k : Nat} {x : Int32} (h : x = a k) : upd a k x = a := by
  funext j
  by_cases e : j = k
  · rw [e, pk_us, h]
  · rw [pk_un e]
theorem ds_of {x : Int32} (h : ds_In x) : ∃ n : Nat, n < 12 ∧ x = nI n := by
  obtain ⟨h0, h1⟩ := h
  have h2 : x ≤ 11 := by
    rw [Int32.le_iff_toInt_le]
    rw [Int32.lt_iff_toInt_lt] at h1
    omega
  obtain ⟨j, hj, e⟩ := nI_of2 (M := 11) (n := 11) (by decide) h0 h2
  exact ⟨j, by omega, e⟩
theorem ds_in {n : Nat} (h : n < 12) : ds_In (nI n) := ⟨nI_pos (by omega), fun z => absurd ((nI_ltI (a := 11) (b := n) (by omega) (by omega)).mp z) (by omega)⟩
section
variable {c jc br : Int32} {w rd : Int64} {a1 a2 a3 a4 a5 a6 a7 a8 a9 a10 : Nat → Int32} {a11 : Nat → Int64} {a12 a13 : Nat → Int32}
theorem ds_isv {post : Int32 → Prop} {x : Int32} (h1 : ds_In x → post 1) (h0 : ¬ ds_In x → post 0) : wpX_isVariable post (c, w, jc, rd, br, a1, a2, a3, a4, a5, a6, a7, a8, a9, a10, a11, a12, a13) x :=
  br_c (fun a => h0 (fun h => h.1 a)) (fun a => br_c (fun b => h0 (fun h => h.2 b)) (fun b => h1 ⟨a, b⟩))
theorem ds_lin {post : Int32 → Prop} {x : Int32} (h1 : ds_In x → post 1) (h0 : ¬ ds_In x → post 0) : wpL_in post () x :=
  br_c (fun a => h0 (fun h => h.1 a)) (fun a => br_c (fun b => h0 (fun h => h.2 b)) (fun b => h1 ⟨a, b⟩))
/-! head: the answer is the class's head; halving a way of one step changes nothing -/
theorem ds_head {post : Int32 → St2 → Prop} {p : Nat → Nat} {x : Nat} (hF : ds_F p a5) (hx : x < 12) (h : post (nI (p x)) (c, w, jc, rd, br, a1, a2, a3, a4, a5, a6, a7, a8, a9, a10, a11, a12, a13)) :
    wpX_head post (c, w, jc, rd, br, a1, a2, a3, a4, a5, a6, a7, a8, a9, a10, a11, a12, a13) (nI x) := by
  obtain ⟨h1, h2, h3⟩ := hF x hx
  obtain ⟨_, h5, _⟩ := hF (p x) h1
  rw [h3] at h5
  refine Exists.intro 2 (And.intro (pk_in x 12 hx) ?_)
  rw [nI_clamp (show x < 2 ^ 31 by omega), h2, nI_clamp (show p x < 2 ^ 31 by omega), h5, ds_nar h1, ds_same h2.symm]
  refine pk_eq (p x) x (fun e => ?_) (fun e => ⟨pk_in x 12 hx, pk_in (p x) 12 h1, pk_in x 12 hx, nm_e ⟨pk_in x 12 hx, nm_r h2 ?_⟩⟩)
  · rw [e] at h
    exact h
  · refine And.intro (pk_in (p x) 12 h1) ?_
    exact br_t (by rw [nI_clamp (show p x < 2 ^ 31 by omega)]; exact h5) h
theorem ds_head_2 {post : Int32 → St2 → Prop} {p : Nat → Nat} {x : Nat} (hF : ds_F p a5) (hx : x < 12) (h : post (nI (p x)) (c, w, jc, rd, br, a1, a2, a3, a4, a5, a6, a7, a8, a9, a10, a11, a12, a13)) :
    wpX_head_2 post (c, w, jc, rd, br, a1, a2, a3, a4, a5, a6, a7, a8, a9, a10, a11, a12, a13) (nI x) := by
  obtain ⟨h1, h2, h3⟩ := hF x hx
  obtain ⟨_, h5, _⟩ := hF (p x) h1
  rw [h3] at h5
  refine Exists.intro 2 (And.intro (pk_in x 12 hx) ?_)
  rw [nI_clamp (show x < 2 ^ 31 by omega), h2, nI_clamp (show p x < 2 ^ 31 by omega), h5, ds_nar h1, ds_same h2.symm]
  refine pk_eq (p x) x (fun e => ?_) (fun e => ⟨pk_in x 12 hx, pk_in (p x) 12 h1, pk_in x 12 hx, nm_e ⟨pk_in x 12 hx, nm_r h2 ?_⟩⟩)
  · rw [e] at h
    exact h
  · refine And.intro (pk_in (p x) 12 h1) ?_
    exact br_t (by rw [nI_clamp (show p x < 2 ^ 31 by omega)]; exact h5) h
/-! restart: every variable its own class, of weight one, free, nobody waits -/
theorem ds_restart {post : St2 → Prop}
    (h : ∀ (b5 b6 b7 : Nat → Int32) (b11 : Nat → Int64), (∀ j, j < 12 → b5 j = nI j) → (∀ j, j < 12 → b6 j = 1) → (∀ j, j < 12 → b7 j = 0) → (∀ j, j < 12 → b11 j = 0) → post (0, 0, 0, 0, 0, a1, a2, a3, a4, b5, b6, b7, a8, a9, a10, b11, a12, a13)) :
    wpX_restart post (c, w, jc, rd, br, a1, a2, a3, a4, a5, a6, a7, a8, a9, a10, a11, a12, a13) := by
  refine pk_loop (σ := (Nat → Int32) × (Nat → Int32) × (Nat → Int32) × (Nat → Int64))
    (fun n i s => wX_restart_27 post 0 0 0 0 0 n (nI i) a1 a2 a3 a4 s.1 s.2.1 s.2.2.1 a8 a9 a10 s.2.2.2 a12 a13)
    (fun i s => ∀ j, j < i → s.1 j = nI j ∧ s.2.1 j = 1 ∧ s.2.2.1 j = 0 ∧ s.2.2.2 j = 0) 12 0 (a5, a6, a7, a11) (by omega) (fun j hj => absurd hj (by omega)) ?_ ?_
  · intro n s hs
    exact pk_le 12 12 (fun _ => h s.1 s.2.1 s.2.2.1 s.2.2.2 (fun j hj => (hs j hj).1) (fun j hj => (hs j hj).2.1) (fun j hj => (hs j hj).2.2.1) (fun j hj => (hs j hj).2.2.2)) (fun z => absurd z (by omega))
  · intro n i s hi hs hw
    refine pk_le 12 i (fun z => absurd z (by omega)) (fun _ => ?_)
    rw [nI_clamp (show i < 2 ^ 31 by omega), ds_b8 i hi]
    refine ⟨pk_in i 12 hi, nm_e ⟨pk_in i 12 hi, nm_e ⟨pk_in i 12 hi, nm_e ⟨pk_in i 12 hi, nm_e (nm_r (nI_1 i) (hw (upd s.1 i (nI i), upd s.2.1 i 1, upd s.2.2.1 i 0, vp_updL s.2.2.2 i 0) (fun j hj => ?_)))⟩⟩⟩⟩
    by_cases e : j = i
    · subst e
      exact ⟨pk_us, pk_us, pk_us, pk_uLs⟩
    · obtain ⟨q1, q2, q3, q4⟩ := hs j (by omega)
      exact ⟨(pk_un e).trans q1, (pk_un e).trans q2, (pk_un e).trans q3, (pk_uLn e).trans q4⟩
end
end
section
/-! ===== the methods over a fresh store: a5 j = j, a6 j = 1, a7 j = 0 ===== -/
section
variable {c jc br : Int32} {w rd : Int64} {a1 a2 a3 a4 a5 a6 a7 a8 a9 a10 : Nat → Int32} {a11 : Nat → Int64} {a12 a13 : Nat → Int32}
theorem ds_F0 (h5 : ∀ j, j < 12 → a5 j = nI j) : ds_F (fun j => j) a5 := fun j hj => ⟨hj, h5 j hj, rfl⟩
theorem ds_head0 {post : Int32 → St2 → Prop} {x : Nat} (h5 : ∀ j, j < 12 → a5 j = nI j) (hx : x < 12) (h : post (nI x) (c, w, jc, rd, br, a1, a2, a3, a4, a5, a6, a7, a8, a9, a10, a11, a12, a13)) :
    wpX_head post (c, w, jc, rd, br, a1, a2, a3, a4, a5, a6, a7, a8, a9, a10, a11, a12, a13) (nI x) :=
  ds_head (p := fun j => j) (ds_F0 h5) hx h
theorem ds_wake {post : St2 → Prop} {x : Nat} (hx : x < 12) (h : post (c, w, jc, rd ||| (a11 x &&& w), br, a1, a2, a3, a4, a5, a6, a7, a8, a9, a10, vp_updL a11 x 0, a12, a13)) :
    wpX_wake post (c, w, jc, rd, br, a1, a2, a3, a4, a5, a6, a7, a8, a9, a10, a11, a12, a13) (nI x) := by
  have hc : (nI x).toNatClampNeg = x := nI_clamp (by omega)
  refine And.intro (pk_in x 12 hx) (nm_e ⟨pk_in x 12 hx, nm_e ?_⟩)
  rw [hc]
  exact h
theorem ds_bindNumber {post : St2 → Prop} {x : Nat} {n : Int32} (h5 : ∀ j, j < 12 → a5 j = nI j) (hx : x < 12) (h7 : a7 x = 0)
    (h : post (c, w, jc, rd ||| (a11 x &&& w), br, a1, a2, a3, a4, a5, a6, upd a7 x 1, upd a8 x n, a9, a10, vp_updL a11 x 0, a12, a13)) :
    wpX_bindNumber post (c, w, jc, rd, br, a1, a2, a3, a4, a5, a6, a7, a8, a9, a10, a11, a12, a13) (nI x) n := by
  have hc : (nI x).toNatClampNeg = x := nI_clamp (by omega)
  unfold wpX_bindNumber
  refine ds_head0 h5 hx (And.intro (pk_in x 12 hx) (br_t (by rw [hc]; exact h7) ⟨pk_in x 12 hx, nm_e ⟨pk_in x 12 hx, nm_e ?_⟩⟩))
  rw [hc]
  exact ds_wake hx h
theorem ds_bindCouple {post : St2 → Prop} {x : Nat} {p q : Int32} (h5 : ∀ j, j < 12 → a5 j = nI j) (hx : x < 12) (h7 : a7 x = 0)
    (h : post (c, w, jc, rd ||| (a11 x &&& w), br, a1, a2, a3, a4, a5, a6, upd a7 x 2, a8, upd a9 x p.toInt8.toInt32, upd a10 x q.toInt8.toInt32, vp_updL a11 x 0, a12, a13)) :
    wpX_bindCouple post (c, w, jc, rd, br, a1, a2, a3, a4, a5, a6, a7, a8, a9, a10, a11, a12, a13) (nI x) p q := by
  have hc : (nI x).toNatClampNeg = x := nI_clamp (by omega)
  unfold wpX_bindCouple
  refine ds_head0 h5 hx (And.intro (pk_in x 12 hx) (br_t (by rw [hc]; exact h7) ⟨pk_in x 12 hx, nm_e ⟨pk_in x 12 hx, nm_e ⟨pk_in x 12 hx, nm_e ?_⟩⟩⟩))
  rw [hc]
  exact ds_wake hx h
theorem ds_want0 {post : St2 → Prop} {p q : Int32} (h : post (c, w, 1, rd, br, a1, a2, a3, a4, a5, a6, a7, a8, a9, a10, a11, upd a12 0 p.toInt8.toInt32, upd a13 0 q.toInt8.toInt32)) :
    wpX_want post (c, w, 0, rd, br, a1, a2, a3, a4, a5, a6, a7, a8, a9, a10, a11, a12, a13) p q :=
  And.intro (pk_in 0 40 (by decide)) (nm_e ⟨pk_in 0 40 (by decide), nm_e (nm_r (show (0 : Int32) + 1 = 1 by decide) h)⟩)
theorem ds_join {post : St2 → Prop} {x y : Nat} (h5 : ∀ j, j < 12 → a5 j = nI j) (h6 : ∀ j, j < 12 → a6 j = 1) (h7 : ∀ j, j < 12 → a7 j = 0) (hx : x < 12) (hy : y < 12)
    (he : x = y → post (c, w, jc, rd, br, a1, a2, a3, a4, a5, a6, a7, a8, a9, a10, a11, a12, a13))
    (hn : x ≠ y → ∀ (b6 : Nat → Int32) (b11 : Nat → Int64), post (c, w, jc, rd, br, a1, a2, a3, a4, upd a5 y (nI x), b6, a7, a8, a9, a10, b11, a12, a13)) :
    wpX_join post (c, w, jc, rd, br, a1, a2, a3, a4, a5, a6, a7, a8, a9, a10, a11, a12, a13) (nI x) (nI y) := by
  have hc : (nI x).toNatClampNeg = x := nI_clamp (by omega)
  have hd : (nI y).toNatClampNeg = y := nI_clamp (by omega)
  have ex : a7 (nI x).toNatClampNeg = 0 := by rw [hc]; exact h7 x hx
  have ey : a7 (nI y).toNatClampNeg = 0 := by rw [hd]; exact h7 y hy
  have lt : ¬ a6 (nI x).toNatClampNeg < a6 (nI y).toNatClampNeg := by rw [hc, hd, h6 x hx, h6 y hy]; decide
  have n1 : ¬ a7 (nI y).toNatClampNeg = 1 := by rw [ey]; decide
  have n2 : ¬ a7 (nI y).toNatClampNeg = 2 := by rw [ey]; decide
  unfold wpX_join
  refine ds_head0 h5 hx (ds_head0 h5 hy (pk_eq x y he (fun z => ⟨pk_in x 12 hx, pk_in y 12 hy, br_f lt ?_⟩)))
  have hp := hn z
  refine br_t rfl ?_
  unfold wX_join_56
  rw [hd, ds_b8 x hx]
  refine ⟨pk_in y 12 hy, nm_e ⟨pk_in x 12 hx, pk_in y 12 hy, pk_in x 12 hx, nm_e ⟨pk_in x 12 hx, pk_in y 12 hy, pk_in x 12 hx, nm_e ⟨pk_in y 12 hy, br_f (by rw [← hd]; exact n1) ?_⟩⟩⟩⟩
  unfold wX_join_127
  refine ⟨pk_in y 12 hy, br_f n2 ?_⟩
  unfold wX_join_158
  exact ⟨pk_in x 12 hx, br_t ex (hp _ _)⟩
theorem ds_try60 {post : St2 → Prop} {y : Nat} {s x3 x4 z0 : Int32} (h7 : ∀ j, j < 12 → a7 j = 0) (hy : y < 12)
    (h : ∀ b11 : Nat → Int64, post (c, w, jc, rd, br, a1, a2, a3, a4, a5, a6, a7, a8, a9, a10, b11, a12, a13)) :
    wX_tryStatement_60 post s (nI y) x3 x4 z0 c w jc rd br a1 a2 a3 a4 a5 a6 a7 a8 a9 a10 a11 a12 a13 := by
  have ey : a7 (nI y).toNatClampNeg = 0 := by rw [nI_clamp (show y < 2 ^ 31 by omega)]; exact h7 y hy
  unfold wX_tryStatement_60
  refine ⟨pk_in y 12 hy, br_t ey ?_⟩
  unfold wX_tryStatement_80
  refine ⟨pk_in y 12 hy, br_t ey ?_⟩
  unfold wX_tryStatement_98
  exact ⟨pk_in y 12 hy, pk_in y 12 hy, nm_e (h _)⟩
theorem ds_try48 {post : St2 → Prop} {y : Nat} {s x3 z0 : Int32} (h7 : ∀ j, j < 12 → a7 j = 0) (hy : y < 12)
    (h : ∀ b11 : Nat → Int64, post (c, w, jc, rd, br, a1, a2, a3, a4, a5, a6, a7, a8, a9, a10, b11, a12, a13)) :
    wX_tryStatement_48 post s (nI y) x3 z0 c w jc rd br a1 a2 a3 a4 a5 a6 a7 a8 a9 a10 a11 a12 a13 := by
  unfold wX_tryStatement_48
  exact br_c (fun _ => ds_try60 h7 hy h) (fun _ => ds_try60 h7 hy h)
theorem ds_try {post : St2 → Prop} {y z : Nat} (h5 : ∀ j, j < 12 → a5 j = nI j) (h7 : ∀ j, j < 12 → a7 j = 0) (hy : y < 12) (hz : z < 12) (e3 : a3 0 = nI y) (e4 : a4 0 = nI z)
    (h : ∀ b11 : Nat → Int64, post (c, w, jc, rd, br, a1, a2, a3, a4, a5, a6, a7, a8, a9, a10, b11, a12, a13)) :
    wpX_tryStatement post (c, w, jc, rd, br, a1, a2, a3, a4, a5, a6, a7, a8, a9, a10, a11, a12, a13) 0 := by
  unfold wpX_tryStatement
  refine And.intro (pk_in 0 40 (by decide)) ?_
  rw [sb_cl0, e3]
  refine ds_head0 h5 hy ?_
  refine And.intro (pk_in 0 40 (by decide)) ?_
  dsimp only
  rw [e4]
  refine ds_head0 h5 hz ?_
  refine And.intro (pk_in 0 40 (by decide)) (br_c (fun _ => ?_) (fun _ => ⟨pk_in 0 40 (by decide), br_c (fun _ => ?_) (fun _ => ?_)⟩))
  · unfold wX_tryStatement_43
    exact ds_try48 h7 hy h
  · unfold wX_tryStatement_43
    exact ds_try48 h7 hy h
  · exact ds_try48 h7 hy h
/-! work: nothing to do; one couple to join; one statement to try -/
theorem ds_work0n {post : St2 → Prop} (n : Nat) (h : post (c, w, 0, 0, 0, a1, a2, a3, a4, a5, a6, a7, a8, a9, a10, a11, a12, a13)) :
    wX_work_0 post (n + 1) c w 0 0 0 a1 a2 a3 a4 a5 a6 a7 a8 a9 a10 a11 a12 a13 :=
  br_t rfl (br_f (by decide) (br_t rfl h))
theorem ds_work0 {post : St2 → Prop} (h : post (c, w, 0, 0, 0, a1, a2, a3, a4, a5, a6, a7, a8, a9, a10, a11, a12, a13)) :
    wpX_work post (c, w, 0, 0, 0, a1, a2, a3, a4, a5, a6, a7, a8, a9, a10, a11, a12, a13) :=
  Exists.intro 1 (ds_work0n 0 h)
theorem ds_workJ {post : St2 → Prop} {x y : Nat} (h5 : ∀ j, j < 12 → a5 j = nI j) (h6 : ∀ j, j < 12 → a6 j = 1) (h7 : ∀ j, j < 12 → a7 j = 0) (hx : x < 12) (hy : y < 12) (e12 : a12 0 = nI x) (e13 : a13 0 = nI y)
    (he : x = y → post (c, w, 0, 0, 0, a1, a2, a3, a4, a5, a6, a7, a8, a9, a10, a11, a12, a13))
    (hn : x ≠ y → ∀ (b6 : Nat → Int32) (b11 : Nat → Int64), post (c, w, 0, 0, 0, a1, a2, a3, a4, upd a5 y (nI x), b6, a7, a8, a9, a10, b11, a12, a13)) :
    wpX_work post (c, w, 1, 0, 0, a1, a2, a3, a4, a5, a6, a7, a8, a9, a10, a11, a12, a13) := by
  refine Exists.intro 2 (br_t rfl (br_t (by decide) ?_))
  unfold wX_work_23
  refine br_f (by decide) (nm_r (show (1 : Int32) - 1 = 0 by decide) ⟨pk_in 0 40 (by decide), pk_in 0 40 (by decide), ?_⟩)
  rw [sb_cl0, e12, e13]
  exact ds_join h5 h6 h7 hx hy (fun z => ds_work0n 0 (he z)) (fun z b6 b11 => ds_work0n 0 (hn z b6 b11))
theorem ds_workS {post : St2 → Prop} {y z : Nat} (h5 : ∀ j, j < 12 → a5 j = nI j) (h7 : ∀ j, j < 12 → a7 j = 0) (hy : y < 12) (hz : z < 12) (e3 : a3 0 = nI y) (e4 : a4 0 = nI z)
    (h : ∀ b11 : Nat → Int64, post (c, w, 0, 0, 0, a1, a2, a3, a4, a5, a6, a7, a8, a9, a10, b11, a12, a13)) :
    wpX_work post (c, w, 0, 1, 0, a1, a2, a3, a4, a5, a6, a7, a8, a9, a10, a11, a12, a13) := by
  refine Exists.intro 2 (br_t rfl (br_f (by decide) (br_f (by decide) ?_)))
  unfold wX_work_23
  refine br_t (by decide) ?_
  refine Exists.intro 1 (br_f (by decide) (br_f (by decide) ?_))
  refine nm_r (show (1 : Int64) &&& (((1 : Int64) <<< ((0 : Int32).toInt64 &&& 63)) ^^^ (-1)) = 0 by decide) ?_
  exact ds_try h5 h7 hy hz e3 e4 (fun b11 => ds_work0n 0 (h b11))
end
end
section
/-! ===== tell over a fresh store: what is refused, and the four kinds of statement ===== -/
def ds_three (k : Int32) : Prop := k = 2 ∨ k = 3 ∨ k = 4 ∨ k = 7
def ds_Fits (k x y z : Int32) : Prop := ¬ k < 0 ∧ ¬ 7 < k ∧ ds_In x ∧ (k = 1 ∨ ds_In y) ∧ (ds_three k → ds_In z)
section
variable {c jc br : Int32} {w rd : Int64} {a1 a2 a3 a4 a5 a6 a7 a8 a9 a10 : Nat → Int32} {a11 : Nat → Int64} {a12 a13 : Nat → Int32}
theorem ds_tellF {post : Int32 → St2 → Prop} {k x y z : Int32}
    (hb : ¬ ds_Fits k x y z → post (-1) (0, w, jc, rd, 0, a1, a2, a3, a4, a5, a6, a7, a8, a9, a10, a11, a12, a13))
    (h1 : ds_Fits k x y z → ds_three k → wX_tell_101 post k x y z 1 0 w jc rd 0 a1 a2 a3 a4 a5 a6 a7 a8 a9 a10 a11 a12 a13)
    (h0 : ds_Fits k x y z → ¬ ds_three k → wX_tell_101 post k x y z 0 0 w jc rd 0 a1 a2 a3 a4 a5 a6 a7 a8 a9 a10 a11 a12 a13) :
    wpX_tell post (0, w, jc, rd, 0, a1, a2, a3, a4, a5, a6, a7, a8, a9, a10, a11, a12, a13) k x y z := by
  have T : ¬ k < 0 → ¬ 7 < k → ds_In x → (k = 1 ∨ ds_In y) → wX_tell_57 post k x y z 0 w jc rd 0 a1 a2 a3 a4 a5 a6 a7 a8 a9 a10 a11 a12 a13 := by
    intro k0 k7 hx hy
    have T1 : ds_three k → wX_tell_78 post k x y z 0 w jc rd 0 a1 a2 a3 a4 a5 a6 a7 a8 a9 a10 a11 a12 a13 := by
      intro ht
      unfold wX_tell_78
      unfold wX_tell_83
      exact br_f (by decide) (ds_isv (fun hz => br_f (by decide) (h1 ⟨k0, k7, hx, hy, fun _ => hz⟩ ht)) (fun hz => br_t rfl (hb (fun f => hz (f.2.2.2.2 ht)))))
    unfold wX_tell_57
    refine br_c (fun e => T1 (Or.inl e)) (fun e2 => br_c (fun e => T1 (Or.inr (Or.inl e))) (fun e3 => br_c (fun e => T1 (Or.inr (Or.inr (Or.inl e)))) (fun e4 => br_c (fun e => T1 (Or.inr (Or.inr (Or.inr e)))) (fun e7 => ?_))))
    have nt : ¬ ds_three k := by
      rintro (e | e | e | e)
      · exact e2 e
      · exact e3 e
      · exact e4 e
      · exact e7 e
    unfold wX_tell_83
    exact br_t rfl (h0 ⟨k0, k7, hx, hy, fun t => absurd t nt⟩ nt)
  exact br_t rfl (br_t (by decide) (br_c (fun a => hb (fun f => f.1 a)) (fun k0 => br_c (fun a => hb (fun f => f.2.1 a)) (fun k7 =>
    ds_isv (fun hx => br_f (by decide) (br_c (fun e => T k0 k7 hx (Or.inl e)) (fun e => ds_isv (fun hy => br_f (by decide) (T k0 k7 hx (Or.inr hy))) (fun hy => br_t rfl (hb (fun f => f.2.2.2.1.elim e hy))))))
      (fun hx => br_t rfl (hb (fun f => hx f.2.2.1)))))))
theorem ds_232 {post : Int32 → St2 → Prop} (h : post c (c, w, 0, 0, 0, a1, a2, a3, a4, a5, a6, a7, a8, a9, a10, a11, a12, a13)) :
    wX_tell_232 post c w 0 0 0 a1 a2 a3 a4 a5 a6 a7 a8 a9 a10 a11 a12 a13 := by
  unfold wX_tell_232
  exact ds_work0 (br_t rfl h)
theorem ds_101i {post : Int32 → St2 → Prop} {x : Nat} {y z t : Int32} (h5 : ∀ j, j < 12 → a5 j = nI j) (h7 : ∀ j, j < 12 → a7 j = 0) (h11 : ∀ j, j < 12 → a11 j = 0) (hx : x < 12)
    (h : ∀ (b1 b2 : Nat → Int32) (b11 : Nat → Int64), post 1 (1, 0, 0, 0, 0, b1, b2, a3, a4, a5, a6, upd a7 x 1, upd a8 x y, a9, a10, b11, a12, a13)) :
    wX_tell_101 post 1 (nI x) y z t 0 0 0 0 0 a1 a2 a3 a4 a5 a6 a7 a8 a9 a10 a11 a12 a13 := by
  have e : (0 : Int64) ||| (a11 x &&& 0) = 0 := by rw [h11 x hx]; decide
  unfold wX_tell_101
  refine nm_r (show (0 : Int32) + 1 = 1 by decide) ⟨pk_in 0 40 (by decide), nm_e ⟨pk_in 0 40 (by decide), nm_e (br_t rfl ?_)⟩⟩
  refine ds_bindNumber h5 hx (h7 x hx) ?_
  rw [e]
  exact ds_232 (h _ _ _)
theorem ds_101p {post : Int32 → St2 → Prop} {x y z : Nat} {t : Int32} (h5 : ∀ j, j < 12 → a5 j = nI j) (h7 : ∀ j, j < 12 → a7 j = 0) (h11 : ∀ j, j < 12 → a11 j = 0) (hx : x < 12) (hz : z < 12)
    (h : ∀ (b1 b2 b9 : Nat → Int32) (b11 : Nat → Int64), post 1 (1, 0, 0, 0, 0, b1, b2, a3, a4, a5, a6, upd a7 x 2, a8, b9, upd a10 x (nI z), b11, a12, a13)) :
    wX_tell_101 post 2 (nI x) (nI y) (nI z) t 0 0 0 0 0 a1 a2 a3 a4 a5 a6 a7 a8 a9 a10 a11 a12 a13 := by
  have e : (0 : Int64) ||| (a11 x &&& 0) = 0 := by rw [h11 x hx]; decide
  unfold wX_tell_101
  refine nm_r (show (0 : Int32) + 1 = 1 by decide) ⟨pk_in 0 40 (by decide), nm_e ⟨pk_in 0 40 (by decide), nm_e (br_f (by decide) (br_f (by decide) (br_t rfl ?_)))⟩⟩
  refine ds_bindCouple h5 hx (h7 x hx) ?_
  rw [e, ds_b8 z hz]
  exact ds_232 (h _ _ _ _)
theorem ds_101s {post : Int32 → St2 → Prop} {x y : Nat} {z t : Int32} (h5 : ∀ j, j < 12 → a5 j = nI j) (h6 : ∀ j, j < 12 → a6 j = 1) (h7 : ∀ j, j < 12 → a7 j = 0) (hx : x < 12) (hy : y < 12)
    (he : x = y → ∀ b1 b2 b12 b13 : Nat → Int32, post 1 (1, 0, 0, 0, 0, b1, b2, a3, a4, a5, a6, a7, a8, a9, a10, a11, b12, b13))
    (hn : x ≠ y → ∀ (b1 b2 b6 : Nat → Int32) (b11 : Nat → Int64) (b12 b13 : Nat → Int32), post 1 (1, 0, 0, 0, 0, b1, b2, a3, a4, upd a5 y (nI x), b6, a7, a8, a9, a10, b11, b12, b13)) :
    wX_tell_101 post 0 (nI x) (nI y) z t 0 0 0 0 0 a1 a2 a3 a4 a5 a6 a7 a8 a9 a10 a11 a12 a13 := by
  unfold wX_tell_101
  refine nm_r (show (0 : Int32) + 1 = 1 by decide) ⟨pk_in 0 40 (by decide), nm_e ⟨pk_in 0 40 (by decide), nm_e (br_f (by decide) (br_t rfl ?_))⟩⟩
  refine ds_want0 ?_
  rw [ds_b8 x hx, ds_b8 y hy]
  dsimp only
  unfold wX_tell_232
  exact ds_workJ h5 h6 h7 hx hy pk_us pk_us (fun z => br_t rfl (he z _ _ _ _)) (fun z b6 b11 => br_t rfl (hn z _ _ b6 b11 _ _))
theorem ds_204 {post : Int32 → St2 → Prop} {y z : Nat} (h5 : ∀ j, j < 12 → a5 j = nI j) (h7 : ∀ j, j < 12 → a7 j = 0) (hy : y < 12) (hz : z < 12) (e3 : a3 0 = nI y)
    (h : ∀ (b4 : Nat → Int32) (b11 : Nat → Int64), post c (c, 1, 0, 0, 0, a1, a2, a3, b4, a5, a6, a7, a8, a9, a10, b11, a12, a13)) :
    wX_tell_204 post 0 (nI z) 0 c 0 0 0 0 a1 a2 a3 a4 a5 a6 a7 a8 a9 a10 a11 a12 a13 := by
  have e : (0 : Int64) ||| ((1 : Int64) <<< ((0 : Int32).toInt64 &&& 63)) = 1 := by decide
  unfold wX_tell_204
  refine ⟨pk_in 0 40 (by decide), nm_e (nm_r e (nm_r e ?_))⟩
  unfold wX_tell_232
  exact ds_workS h5 h7 hy hz e3 (by rw [sb_cl0, ds_b8 z hz]; exact pk_us) (fun b11 => br_t rfl (h _ b11))
theorem ds_101w {post : Int32 → St2 → Prop} {k x zz t : Int32} {y z : Nat} (h5 : ∀ j, j < 12 → a5 j = nI j) (h7 : ∀ j, j < 12 → a7 j = 0) (k1 : ¬ k = 1) (k0 : ¬ k = 0) (k2 : ¬ k = 2) (hy : y < 12) (hz : z < 12)
    (ht : t = 0 ∨ zz = nI z)
    (h : ∀ (b1 b2 b3 b4 : Nat → Int32) (b11 : Nat → Int64), post 1 (1, 1, 0, 0, 0, b1, b2, b3, b4, a5, a6, a7, a8, a9, a10, b11, a12, a13)) :
    wX_tell_101 post k x (nI y) zz t 0 0 0 0 0 a1 a2 a3 a4 a5 a6 a7 a8 a9 a10 a11 a12 a13 := by
  unfold wX_tell_101
  refine nm_r (show (0 : Int32) + 1 = 1 by decide) ⟨pk_in 0 40 (by decide), nm_e ⟨pk_in 0 40 (by decide), nm_e (br_f k1 (br_f k0 (br_f k2 ⟨pk_in 0 40 (by decide), nm_e ?_⟩)))⟩⟩
  have e3 : upd a3 (0 : Int32).toNatClampNeg (nI y).toInt8.toInt32 0 = nI y := by
    rw [sb_cl0, ds_b8 y hy]
    exact pk_us
  refine br_c (fun _ => ds_204 h5 h7 hy hy e3 (fun b4 b11 => h _ _ _ b4 b11)) (fun e => ?_)
  rcases ht with ht | ht
  · exact absurd ht e
  · rw [ht]
    exact ds_204 h5 h7 hy hz e3 (fun b4 b11 => h _ _ _ b4 b11)
end
end
section
/-! ===== the answers, over a store whose forest has depth one ===== -/
section
variable {c jc br : Int32} {w rd : Int64} {a1 a2 a3 a4 a5 a6 a7 a8 a9 a10 : Nat → Int32} {a11 : Nat → Int64} {a12 a13 : Nat → Int32}
theorem ds_state {post : Int32 → St2 → Prop} {p : Nat → Nat} {v : Int32} (hF : ds_F p a5)
    (hi : ∀ n, n < 12 → v = nI n → post (a7 (p n)) (c, w, jc, rd, 0, a1, a2, a3, a4, a5, a6, a7, a8, a9, a10, a11, a12, a13))
    (ho : ¬ ds_In v → post (-1) (c, w, jc, rd, 0, a1, a2, a3, a4, a5, a6, a7, a8, a9, a10, a11, a12, a13)) :
    wpX_state post (c, w, jc, rd, 0, a1, a2, a3, a4, a5, a6, a7, a8, a9, a10, a11, a12, a13) v := by
  refine br_t rfl (ds_isv (fun hv => br_f (by decide) ?_) (fun hv => br_t rfl (ho hv)))
  obtain ⟨n, hn, rfl⟩ := ds_of hv
  have hp := (hF n hn).1
  refine ds_head_2 hF hn (And.intro (pk_in (p n) 12 hp) ?_)
  rw [nI_clamp (show p n < 2 ^ 31 by omega)]
  exact hi n hn rfl
theorem ds_value {post : Int32 → St2 → Prop} {p : Nat → Nat} {v : Int32} (hF : ds_F p a5)
    (hi : ∀ n, n < 12 → v = nI n → a7 (p n) = 1 → post (a8 (p n)) (c, w, jc, rd, 0, a1, a2, a3, a4, a5, a6, a7, a8, a9, a10, a11, a12, a13))
    (hj : ∀ n, n < 12 → v = nI n → ¬ a7 (p n) = 1 → post 0 (c, w, jc, rd, 0, a1, a2, a3, a4, a5, a6, a7, a8, a9, a10, a11, a12, a13))
    (ho : ¬ ds_In v → post 0 (c, w, jc, rd, 0, a1, a2, a3, a4, a5, a6, a7, a8, a9, a10, a11, a12, a13)) :
    wpX_value post (c, w, jc, rd, 0, a1, a2, a3, a4, a5, a6, a7, a8, a9, a10, a11, a12, a13) v := by
  unfold wpX_value
  refine ds_isv (fun hv => br_f (by decide) (br_t rfl ?_)) (fun hv => br_t rfl (ho hv))
  obtain ⟨n, hn, rfl⟩ := ds_of hv
  have hp := (hF n hn).1
  refine ds_head hF hn (And.intro (pk_in (p n) 12 hp) ?_)
  rw [nI_clamp (show p n < 2 ^ 31 by omega)]
  exact br_c (fun e => ⟨pk_in (p n) 12 hp, hi n hn rfl e⟩) (fun e => hj n hn rfl e)
theorem ds_part {post : Int32 → St2 → Prop} {p : Nat → Nat} {v : Int32} (hF : ds_F p a5)
    (hi : ∀ n, n < 12 → v = nI n → a7 (p n) = 2 → ∃ m, m < 12 ∧ a10 (p n) = nI m ∧ p m = m ∧ (∀ j, j < m → p j ≠ m) ∧ post (nI m) (c, w, jc, rd, 0, a1, a2, a3, a4, a5, a6, a7, a8, a9, a10, a11, a12, a13))
    (hj : ∀ n, n < 12 → v = nI n → ¬ a7 (p n) = 2 → post (-1) (c, w, jc, rd, 0, a1, a2, a3, a4, a5, a6, a7, a8, a9, a10, a11, a12, a13))
    (ho : ¬ ds_In v → post (-1) (c, w, jc, rd, 0, a1, a2, a3, a4, a5, a6, a7, a8, a9, a10, a11, a12, a13)) :
    wpX_part post (c, w, jc, rd, 0, a1, a2, a3, a4, a5, a6, a7, a8, a9, a10, a11, a12, a13) v 1 := by
  unfold wpX_part
  refine ds_isv (fun hv => br_f (by decide) (br_t rfl (br_f (by decide) (br_t (by decide) ?_)))) (fun hv => br_t rfl (ho hv))
  obtain ⟨n, hn, rfl⟩ := ds_of hv
  have hp := (hF n hn).1
  refine ds_head hF hn (And.intro (pk_in (p n) 12 hp) ?_)
  rw [nI_clamp (show p n < 2 ^ 31 by omega)]
  refine br_c (fun e => br_f (by decide) ⟨pk_in (p n) 12 hp, ?_⟩) (fun e => hj n hn rfl e)
  obtain ⟨m, hm, e10, pm, pj, h⟩ := hi n hn rfl e
  rw [e10]
  unfold wX_part_64
  refine ds_head hF hm ?_
  rw [pm]
  refine pk_loop (σ := Unit) (fun f i _ => wX_part_72 post (nI m) f (nI i) c w jc rd 0 a1 a2 a3 a4 a5 a6 a7 a8 a9 a10 a11 a12 a13) (fun _ _ => True) m 0 () (by omega) trivial ?_ ?_
  · intro f _ _
    refine ds_head hF hm ?_
    rw [pm]
    exact br_t rfl h
  · intro f i _ hl _ hw
    have hq := (hF i (by omega)).1
    refine ds_head hF (show i < 12 by omega) ?_
    exact pk_eq (p i) m (fun z => absurd z (pj i hl)) (fun _ => nm_r (nI_1 i) (hw () trivial))
theorem ds_wait0 {post : Int32 → Prop} (h : post 0) : wpX_waiting post (0, w, jc, rd, 0, a1, a2, a3, a4, a5, a6, a7, a8, a9, a10, a11, a12, a13) :=
  br_t rfl (Exists.intro 1 (br_t (by decide) h))
theorem ds_wait10 {post : Int32 → Prop} (h : post 0) : wpX_waiting post (1, 0, jc, rd, 0, a1, a2, a3, a4, a5, a6, a7, a8, a9, a10, a11, a12, a13) :=
  br_t rfl (Exists.intro 2 (br_f (by decide) (nm_r (e' := 0) (by decide) (nm_r (e' := 1) (by decide) (br_t (by decide) h)))))
theorem ds_wait11 {post : Int32 → Prop} (h : post 1) : wpX_waiting post (1, 1, jc, rd, 0, a1, a2, a3, a4, a5, a6, a7, a8, a9, a10, a11, a12, a13) :=
  br_t rfl (Exists.intro 2 (br_f (by decide) (nm_r (e' := 1) (by decide) (nm_r (e' := 1) (by decide) (br_t (by decide) h)))))
theorem ds_cls0 {post : Int32 → Prop} (h5 : ∀ j, j < 12 → a5 j = nI j) (h : post 12) : wpX_classes post (c, w, jc, rd, 0, a1, a2, a3, a4, a5, a6, a7, a8, a9, a10, a11, a12, a13) := by
  refine br_t rfl ?_
  refine pk_loop (σ := Unit) (fun f i _ => wX_classes_14 post c w jc rd 0 a1 a2 a3 a4 a5 a6 a7 a8 a9 a10 a11 a12 a13 f (nI i) (nI i)) (fun _ _ => True) 12 0 () (by omega) trivial ?_ ?_
  · intro f _ _
    exact pk_le 12 12 (fun _ => h) (fun z => absurd z (by omega))
  · intro f i _ hl _ hw
    refine pk_le 12 i (fun z => absurd z (by omega)) (fun _ => ⟨pk_in i 12 hl, br_t ?_ (nm_r (nI_1 i) (nm_r (nI_1 i) (hw () trivial)))⟩)
    rw [nI_clamp (show i < 2 ^ 31 by omega)]
    exact h5 i hl
theorem ds_cls1 {post : Int32 → Prop} {x y : Nat} (hx : x < 12) (hy : y < 12) (hxy : x ≠ y) (h5 : ∀ j, j < 12 → a5 j = nI (if j = y then x else j)) (h : post 11) :
    wpX_classes post (c, w, jc, rd, 0, a1, a2, a3, a4, a5, a6, a7, a8, a9, a10, a11, a12, a13) := by
  refine br_t rfl ?_
  have L := pk_loop (σ := Unit) (fun f i _ => wX_classes_14 post c w jc rd 0 a1 a2 a3 a4 a5 a6 a7 a8 a9 a10 a11 a12 a13 f (nI (if i ≤ y then i else i - 1)) (nI i)) (fun _ _ => True) 12 0 () (by omega) trivial ?_ ?_
  · rw [if_pos (Nat.zero_le y)] at L
    exact L
  · intro f _ _
    rw [if_neg (show ¬ 12 ≤ y by omega)]
    exact pk_le 12 12 (fun _ => h) (fun z => absurd z (by omega))
  · intro f i _ hl _ hw
    have t := hw () trivial
    refine pk_le 12 i (fun z => absurd z (by omega)) (fun _ => ⟨pk_in i 12 hl, ?_⟩)
    rw [nI_clamp (show i < 2 ^ 31 by omega), h5 i hl]
    by_cases e : i = y
    · rw [if_pos e, if_pos (show i ≤ y by omega)]
      rw [if_neg (show ¬ i + 1 ≤ y by omega), show i + 1 - 1 = i by omega] at t
      exact pk_eq x i (fun z => absurd z (by omega)) (fun _ => nm_r (nI_1 i) t)
    · rw [if_neg e]
      refine br_t rfl (nm_r (nI_1 _) (nm_r (nI_1 i) ?_))
      by_cases g : i ≤ y
      · rw [if_pos g]
        rw [if_pos (show i + 1 ≤ y by omega)] at t
        exact t
      · rw [if_neg g]
        rw [if_neg (show ¬ i + 1 ≤ y by omega)] at t
        rw [show i - 1 + 1 = i + 1 - 1 by omega]
        exact t
end
end
section
/-! ===== the law behind tell: every answer is the one that the flags x5 (fits), x6 (joined), x7 (state) call for ===== -/
section
variable {c jc br : Int32} {w rd : Int64} {a1 a2 a3 a4 a5 a6 a7 a8 a9 a10 : Nat → Int32} {a11 : Nat → Int64} {a12 a13 : Nat → Int32}
theorem ds_266 {x6 e : Int32} {mc ms kc ks : Nat}
    (hc : ∀ post : Int32 → Prop, post (if x6 = 0 then 12 else 11) → wpX_classes post (c, w, jc, rd, 0, a1, a2, a3, a4, a5, a6, a7, a8, a9, a10, a11, a12, a13)) :
    wL_lawOf_266 (fun r _ => r = 1) mc ms x6 e e kc ks c w jc rd 0 a1 a2 a3 a4 a5 a6 a7 a8 a9 a10 a11 a12 a13 := by
  unfold wL_lawOf_266
  refine br_t rfl (hc _ ?_)
  by_cases h : x6 = 0
  · rw [if_pos h]
    exact br_t h (br_t rfl rfl)
  · rw [if_neg h]
    exact br_f h (br_t rfl rfl)
theorem ds_241 {k x5 x6 e : Int32} {mc ms kc ks : Nat}
    (hw : ∀ post : Int32 → Prop, post (if x5 = 0 ∨ k < 3 then 0 else 1) → wpX_waiting post (c, w, jc, rd, 0, a1, a2, a3, a4, a5, a6, a7, a8, a9, a10, a11, a12, a13))
    (hc : ∀ post : Int32 → Prop, post (if x6 = 0 then 12 else 11) → wpX_classes post (c, w, jc, rd, 0, a1, a2, a3, a4, a5, a6, a7, a8, a9, a10, a11, a12, a13)) :
    wL_lawOf_241 (fun r _ => r = 1) mc ms k x5 x6 e e kc ks c w jc rd 0 a1 a2 a3 a4 a5 a6 a7 a8 a9 a10 a11 a12 a13 := by
  unfold wL_lawOf_241
  refine br_t rfl (hw _ ?_)
  refine br_c (fun h => ?_) (fun h => br_c (fun g => ?_) (fun g => ?_))
  · rw [if_pos (Or.inl h)]
    unfold wL_lawOf_265
    exact ds_266 hc
  · rw [if_pos (Or.inr g)]
    unfold wL_lawOf_265
    exact ds_266 hc
  · rw [if_neg (fun o => o.elim h g)]
    exact ds_266 hc
theorem ds_168 {k y z v x5 x6 x7 e : Int32} {mc ms kc ks : Nat} {p : Nat → Nat} (hF : ds_F p a5)
    (hi : ∀ n, n < 12 → v = nI n → a7 (p n) = x7 ∧ (x7 = 1 → a8 (p n) = y) ∧ (x7 = 2 → ∃ m, m < 12 ∧ z = nI m ∧ a10 (p n) = nI m ∧ p m = m ∧ ∀ j, j < m → p j ≠ m))
    (ho : ¬ ds_In v → x7 = 0)
    (hw : ∀ post : Int32 → Prop, post (if x5 = 0 ∨ k < 3 then 0 else 1) → wpX_waiting post (c, w, jc, rd, 0, a1, a2, a3, a4, a5, a6, a7, a8, a9, a10, a11, a12, a13))
    (hc : ∀ post : Int32 → Prop, post (if x6 = 0 then 12 else 11) → wpX_classes post (c, w, jc, rd, 0, a1, a2, a3, a4, a5, a6, a7, a8, a9, a10, a11, a12, a13)) :
    wL_lawOf_168 (fun r _ => r = 1) mc ms k y z v x5 x6 x7 e e kc ks c w jc rd 0 a1 a2 a3 a4 a5 a6 a7 a8 a9 a10 a11 a12 a13 := by
  have o1 : ¬ ds_In v → ¬ x7 = 1 := fun h => by rw [ho h]; decide
  have o2 : ¬ ds_In v → ¬ x7 = 2 := fun h => by rw [ho h]; decide
  have T217 : ∀ u : Int32, wL_lawOf_217 (fun r _ => r = 1) mc ms k z v x5 x6 x7 u u kc ks c w jc rd 0 a1 a2 a3 a4 a5 a6 a7 a8 a9 a10 a11 a12 a13 := by
    intro u
    unfold wL_lawOf_217
    refine br_t rfl (ds_part hF (fun n hn hv h => ?_) (fun n hn hv h => ?_) (fun h => ?_))
    · have e7 : x7 = 2 := (hi n hn hv).1.symm.trans h
      obtain ⟨m, hm, ez, e10, pm, pj⟩ := (hi n hn hv).2.2 e7
      refine ⟨m, hm, e10, pm, pj, br_t e7 ?_⟩
      rw [ez]
      exact ds_241 hw hc
    · exact br_f (fun g => h ((hi n hn hv).1.trans g)) (ds_241 hw hc)
    · exact br_f (o2 h) (ds_241 hw hc)
  have T194 : ∀ u : Int32, wL_lawOf_194 (fun r _ => r = 1) mc ms k y z v x5 x6 x7 u u kc ks c w jc rd 0 a1 a2 a3 a4 a5 a6 a7 a8 a9 a10 a11 a12 a13 := by
    intro u
    unfold wL_lawOf_194
    refine br_t rfl (ds_value hF (fun n hn hv h => ?_) (fun n hn hv h => ?_) (fun h => ?_))
    · have e7 : x7 = 1 := (hi n hn hv).1.symm.trans h
      refine br_t e7 ?_
      rw [(hi n hn hv).2.1 e7]
      exact T217 y
    · exact br_f (fun g => h ((hi n hn hv).1.trans g)) (T217 0)
    · exact br_f (o1 h) (T217 0)
  unfold wL_lawOf_168
  refine br_t rfl (ds_state hF (fun n hn hv => ?_) (fun h => ?_))
  · refine ds_lin (fun _ => br_f (by decide) ?_) (fun h => absurd (by rw [hv]; exact ds_in hn) h)
    rw [(hi n hn hv).1]
    exact T194 x7
  · exact ds_lin (fun g => absurd g h) (fun _ => br_t rfl (T194 (-1)))
end
/-! the flags, and the law ahead of tell -/
def ds_Flags (k x y z v x5 x6 x7 : Int32) : Prop :=
  (¬ ds_Fits k x y z → x5 = 0 ∧ x6 = 0 ∧ x7 = 0) ∧ (ds_Fits k x y z → x5 = 1 ∧ x6 = (if k = 0 ∧ x ≠ y then 1 else 0) ∧ x7 = (if v = x ∧ k = 1 then 1 else if v = x ∧ k = 2 then 2 else 0))
theorem ds_L76 {post : Int32 → St0 → Prop} {mc ms kc ks : Nat} {k x y z v x5 : Int32}
    (H : ∀ x6 x7, ds_Flags k x y z v x5 x6 x7 → wL_lawOf_138 post mc ms k x y z v x5 x6 x7 kc ks)
    (h5 : (ds_Fits k x y z ∧ x5 = 1) ∨ (¬ ds_Fits k x y z ∧ x5 = 0)) : wL_lawOf_76 post mc ms k x y z v x5 kc ks := by
  rcases h5 with ⟨f, rfl⟩ | ⟨f, rfl⟩
  · have T117 : ∀ x6 : Int32, x6 = (if k = 0 ∧ x ≠ y then 1 else 0) → ¬ (v = x ∧ k = 1) → wL_lawOf_117 post mc ms k x y z v 1 x6 kc ks := by
      intro x6 e6 n1
      unfold wL_lawOf_117
      refine br_f (by decide) (br_c (fun e => br_c (fun e2 => H x6 2 ⟨fun nf => absurd f nf, fun _ => ⟨rfl, e6, ?_⟩⟩) (fun e2 => H x6 0 ⟨fun nf => absurd f nf, fun _ => ⟨rfl, e6, ?_⟩⟩)) (fun e => H x6 0 ⟨fun nf => absurd f nf, fun _ => ⟨rfl, e6, ?_⟩⟩))
      · rw [if_neg n1, if_pos ⟨e, e2⟩]
      · rw [if_neg n1, if_neg (fun h => e2 h.2)]
      · rw [if_neg n1, if_neg (fun h => e h.1)]
    have T95 : ∀ x6 : Int32, x6 = (if k = 0 ∧ x ≠ y then 1 else 0) → wL_lawOf_95 post mc ms k x y z v 1 x6 kc ks := by
      intro x6 e6
      unfold wL_lawOf_95
      refine br_f (by decide) (br_c (fun e => br_c (fun e1 => H x6 1 ⟨fun nf => absurd f nf, fun _ => ⟨rfl, e6, ?_⟩⟩) (fun e1 => T117 x6 e6 (fun h => e1 h.2))) (fun e => T117 x6 e6 (fun h => e h.1)))
      rw [if_pos ⟨e, e1⟩]
    unfold wL_lawOf_76
    refine br_f (by decide) (br_c (fun e => br_c (fun g => T95 0 ?_) (fun g => T95 1 ?_)) (fun e => T95 0 ?_))
    · rw [if_neg (fun h => h.2 g)]
    · rw [if_pos ⟨e, g⟩]
    · rw [if_neg (fun h => e h.1)]
  · unfold wL_lawOf_76
    refine br_t rfl ?_
    unfold wL_lawOf_94
    unfold wL_lawOf_95
    refine br_t rfl ?_
    unfold wL_lawOf_117
    refine br_t rfl ?_
    unfold wL_lawOf_137
    exact H 0 0 ⟨fun _ => ⟨rfl, rfl, rfl⟩, fun g => absurd g f⟩
theorem ds_L {post : Int32 → St0 → Prop} {mc ms : Nat} {k x y z v : Int32}
    (H : ∀ x5 x6 x7, ds_Flags k x y z v x5 x6 x7 → wL_lawOf_138 post mc ms k x y z v x5 x6 x7 0 0) : wpL_lawOf post mc ms () k x y z v := by
  have B33 : ¬ (¬ k < 0 ∧ ¬ 7 < k ∧ ds_In x ∧ (k = 1 ∨ ds_In y)) → wL_lawOf_33 post mc ms k x y z v 0 0 := by
    intro nf
    have n : ¬ ds_Fits k x y z := fun f => nf ⟨f.1, f.2.1, f.2.2.1, f.2.2.2.1⟩
    have T76 : wL_lawOf_76 post mc ms k x y z v 0 0 0 := ds_L76 (H 0) (Or.inr ⟨n, rfl⟩)
    have T57 : wL_lawOf_57 post mc ms k x y z v 0 0 0 := by
      unfold wL_lawOf_57
      refine br_t rfl ?_
      unfold wL_lawOf_73
      unfold wL_lawOf_74
      exact T76
    unfold wL_lawOf_33
    unfold wL_lawOf_34
    exact br_c (fun _ => T57) (fun _ => br_c (fun _ => T57) (fun _ => br_c (fun _ => T57) (fun _ => br_c (fun _ => T57) (fun _ => T76))))
  have G29 : ¬ k < 0 → ¬ 7 < k → ds_In x → (k = 1 ∨ ds_In y) → wL_lawOf_29 post mc ms k x y z v 0 0 := by
    intro k0 k7 hx hy
    have T57 : ds_three k → wL_lawOf_57 post mc ms k x y z v 1 0 0 := by
      intro ht
      unfold wL_lawOf_57
      refine br_f (by decide) (ds_lin (fun hz => br_f (by decide) ?_) (fun hz => br_t rfl ?_))
      · unfold wL_lawOf_74
        exact ds_L76 (H 1) (Or.inl ⟨⟨k0, k7, hx, hy, fun _ => hz⟩, rfl⟩)
      · unfold wL_lawOf_73
        unfold wL_lawOf_74
        exact ds_L76 (H 0) (Or.inr ⟨fun f => hz (f.2.2.2.2 ht), rfl⟩)
    unfold wL_lawOf_29
    unfold wL_lawOf_34
    refine br_c (fun e => T57 (Or.inl e)) (fun e2 => br_c (fun e => T57 (Or.inr (Or.inl e))) (fun e3 => br_c (fun e => T57 (Or.inr (Or.inr (Or.inl e)))) (fun e4 => br_c (fun e => T57 (Or.inr (Or.inr (Or.inr e)))) (fun e7 => ?_))))
    refine ds_L76 (H 1) (Or.inl ⟨⟨k0, k7, hx, hy, ?_⟩, rfl⟩)
    rintro (e | e | e | e)
    · exact absurd e e2
    · exact absurd e e3
    · exact absurd e e4
    · exact absurd e e7
  unfold wpL_lawOf
  exact br_c (fun a => B33 (fun f => f.1 a)) (fun k0 => br_c (fun a => B33 (fun f => f.2.1 a)) (fun k7 =>
    ds_lin (fun hx => br_f (by decide) (br_c (fun e => G29 k0 k7 hx (Or.inl e)) (fun e => ds_lin (fun hy => br_f (by decide) (G29 k0 k7 hx (Or.inr hy))) (fun hy => br_t rfl (B33 (fun f => f.2.2.2.elim e hy))))))
      (fun hx => br_t rfl (B33 (fun f => hx f.2.2.1)))))
end
section
/-! ===== the join: tell by tell ===== -/
theorem ds_kge {k : Int32} (h : ¬ k < 0) (k0 : ¬ k = 0) (k1 : ¬ k = 1) (k2 : ¬ k = 2) : ¬ k < 3 := by
  obtain ⟨j, hj, rfl⟩ := nI_of h
  have j0 : j ≠ 0 := fun e => k0 (by rw [e]; rfl)
  have j1 : j ≠ 1 := fun e => k1 (by rw [e]; rfl)
  have j2 : j ≠ 2 := fun e => k2 (by rw [e]; rfl)
  exact nI_nlt (b := 3) (by omega) hj
theorem ds_138 {k x y z v x5 x6 x7 : Int32} (hf : ds_Flags k x y z v x5 x6 x7) : wL_lawOf_138 (fun r _ => r = 1) 14 342 k x y z v x5 x6 x7 0 0 := by
  obtain ⟨hb, hg⟩ := hf
  unfold wL_lawOf_138
  refine ⟨by decide, by decide, 13, 324, by decide, by decide, ?_⟩
  unfold wpX_init
  refine ⟨by decide, by decide, by decide, by decide, by decide, by decide, by decide, by decide, by decide, by decide, by decide, by decide, by decide, by decide, by decide, by decide, by decide, by decide, by decide, by decide, by decide, by decide, by decide, by decide, by decide, by decide, ?_⟩
  refine ds_restart (fun b5 b6 b7 b11 h5 h6 h7 h11 => ?_)
  dsimp only
  refine ds_tellF (fun nf => ?_) (fun f ht => ?_) (fun f ht => ?_)
  · obtain ⟨rfl, rfl, rfl⟩ := hb nf
    refine br_t rfl (ds_168 (p := fun j => j) (ds_F0 h5) (fun n hn _ => ⟨h7 n hn, fun g => absurd g (by decide), fun g => absurd g (by decide)⟩) (fun _ => rfl) (fun post hp => ds_wait0 ?_) (fun post hp => ds_cls0 h5 ?_))
    · rw [if_pos (Or.inl rfl)] at hp
      exact hp
    · rw [if_pos rfl] at hp
      exact hp
  · obtain ⟨rfl, e6, e7⟩ := hg f
    obtain ⟨k0, k7, hx, hy, hz⟩ := f
    obtain ⟨zn, hzn, rfl⟩ := ds_of (hz ht)
    obtain ⟨xn, hxn, rfl⟩ := ds_of hx
    by_cases k2 : k = 2
    · subst k2
      obtain ⟨yn, hyn, rfl⟩ := ds_of (hy.resolve_left (by decide))
      rw [if_neg (fun h => absurd h.1 (by decide))] at e6
      subst e6
      have e71 : v = nI xn → x7 = 2 := fun e => by rw [e7, if_neg (fun h => absurd h.2 (by decide)), if_pos ⟨e, rfl⟩]
      have e70 : ¬ v = nI xn → x7 = 0 := fun e => by rw [e7, if_neg (fun h => e h.1), if_neg (fun h => e h.1)]
      refine ds_101p h5 h7 h11 hxn hzn (fun c1 c2 c9 c11 => br_f (by decide) (ds_168 (p := fun j => j) (ds_F0 h5) (fun n hn hv => ?_) (fun h => e70 (fun e => h (by rw [e]; exact ds_in hxn))) (fun post hp => ds_wait10 ?_) (fun post hp => ds_cls0 h5 ?_)))
      · by_cases e : n = xn
        · subst e
          have e2 := e71 hv
          subst e2
          exact ⟨pk_us, fun g => absurd g (by decide), fun _ => ⟨zn, hzn, rfl, (pk_us (f := fun _ => 0) (k := n) (x := nI zn)), rfl, fun j hj => by show j ≠ zn; omega⟩⟩
        · have e2 := e70 (by rw [hv]; exact fun g => e ((nI_eq (by omega) (by omega)).mp g))
          subst e2
          exact ⟨(pk_un e).trans (h7 n hn), fun g => absurd g (by decide), fun g => absurd g (by decide)⟩
      · rw [if_pos (Or.inr (by decide))] at hp
        exact hp
      · rw [if_pos rfl] at hp
        exact hp
    · have k1 : ¬ k = 1 := by
        rintro rfl
        rcases ht with e | e | e | e
        · exact absurd e (by decide)
        · exact absurd e (by decide)
        · exact absurd e (by decide)
        · exact absurd e (by decide)
      have kz : ¬ k = 0 := by
        rintro rfl
        rcases ht with e | e | e | e
        · exact absurd e (by decide)
        · exact absurd e (by decide)
        · exact absurd e (by decide)
        · exact absurd e (by decide)
      obtain ⟨yn, hyn, rfl⟩ := ds_of (hy.resolve_left k1)
      rw [if_neg (fun h => kz h.1)] at e6
      rw [if_neg (fun h => k1 h.2), if_neg (fun h => k2 h.2)] at e7
      subst e6 e7
      refine ds_101w (z := zn) h5 h7 k1 kz k2 hyn hzn (Or.inr rfl) (fun c1 c2 c3 c4 c11 => br_f (by decide) (ds_168 (p := fun j => j) (ds_F0 h5) (fun n hn _ => ⟨h7 n hn, fun g => absurd g (by decide), fun g => absurd g (by decide)⟩) (fun _ => rfl) (fun post hp => ds_wait11 ?_) (fun post hp => ds_cls0 h5 ?_)))
      · rw [if_neg (fun o => o.elim (by decide) (ds_kge k0 kz k1 k2))] at hp
        exact hp
      · rw [if_pos rfl] at hp
        exact hp
  · obtain ⟨rfl, e6, e7⟩ := hg f
    obtain ⟨k0, k7, hx, hy, _⟩ := f
    obtain ⟨xn, hxn, rfl⟩ := ds_of hx
    have k2 : ¬ k = 2 := fun e => ht (Or.inl e)
    by_cases k1 : k = 1
    · subst k1
      rw [if_neg (fun h => absurd h.1 (by decide))] at e6
      subst e6
      have e71 : v = nI xn → x7 = 1 := fun e => by rw [e7, if_pos ⟨e, rfl⟩]
      have e70 : ¬ v = nI xn → x7 = 0 := fun e => by rw [e7, if_neg (fun h => e h.1), if_neg (fun h => e h.1)]
      refine ds_101i h5 h7 h11 hxn (fun c1 c2 c11 => br_f (by decide) (ds_168 (p := fun j => j) (ds_F0 h5) (fun n hn hv => ?_) (fun h => e70 (fun e => h (by rw [e]; exact ds_in hxn))) (fun post hp => ds_wait10 ?_) (fun post hp => ds_cls0 h5 ?_)))
      · by_cases e : n = xn
        · subst e
          have e2 := e71 hv
          subst e2
          exact ⟨pk_us, fun _ => (pk_us (f := fun _ => 0) (k := n) (x := y)), fun g => absurd g (by decide)⟩
        · have e2 := e70 (by rw [hv]; exact fun g => e ((nI_eq (by omega) (by omega)).mp g))
          subst e2
          exact ⟨(pk_un e).trans (h7 n hn), fun g => absurd g (by decide), fun g => absurd g (by decide)⟩
      · rw [if_pos (Or.inr (by decide))] at hp
        exact hp
      · rw [if_pos rfl] at hp
        exact hp
    · obtain ⟨yn, hyn, rfl⟩ := ds_of (hy.resolve_left k1)
      rw [if_neg (fun h => k1 h.2), if_neg (fun h => k2 h.2)] at e7
      subst e7
      by_cases kz : k = 0
      · subst kz
        refine ds_101s h5 h6 h7 hxn hyn (fun e => ?_) (fun e => ?_)
        · rw [if_neg (fun h => h.2 (by rw [e]))] at e6
          subst e6
          intro c1 c2 c12 c13
          refine br_f (by decide) (ds_168 (p := fun j => j) (ds_F0 h5) (fun n hn _ => ⟨h7 n hn, fun g => absurd g (by decide), fun g => absurd g (by decide)⟩) (fun _ => rfl) (fun post hp => ds_wait10 ?_) (fun post hp => ds_cls0 h5 ?_))
          · rw [if_pos (Or.inr (by decide))] at hp
            exact hp
          · rw [if_pos rfl] at hp
            exact hp
        · rw [if_pos ⟨rfl, fun h => e ((nI_eq (by omega) (by omega)).mp h)⟩] at e6
          subst e6
          intro c1 c2 c6 c11 c12 c13
          have u5 : ∀ j, j < 12 → upd b5 yn (nI xn) j = nI (if j = yn then xn else j) := by
            intro j hj
            by_cases g : j = yn
            · rw [if_pos g, g, pk_us]
            · rw [if_neg g, pk_un g, h5 j hj]
          have hF : ds_F (fun j => if j = yn then xn else j) (upd b5 yn (nI xn)) := by
            intro j hj
            refine ⟨?_, u5 j hj, ?_⟩
            · show (if j = yn then xn else j) < 12
              split <;> omega
            · show (if (if j = yn then xn else j) = yn then xn else (if j = yn then xn else j)) = (if j = yn then xn else j)
              by_cases g : j = yn
              · rw [if_pos g, if_neg e]
              · rw [if_neg g, if_neg g]
          refine br_f (by decide) (ds_168 (p := fun j => if j = yn then xn else j) hF (fun n hn _ => ⟨h7 _ (hF n hn).1, fun g => absurd g (by decide), fun g => absurd g (by decide)⟩) (fun _ => rfl) (fun post hp => ds_wait10 ?_) (fun post hp => ds_cls1 hxn hyn e u5 ?_))
          · rw [if_pos (Or.inr (by decide))] at hp
            exact hp
          · rw [if_neg (by decide)] at hp
            exact hp
      · rw [if_neg (fun h => kz h.1)] at e6
        subst e6
        refine ds_101w (z := yn) h5 h7 k1 kz k2 hyn hyn (Or.inl rfl) (fun c1 c2 c3 c4 c11 => br_f (by decide) (ds_168 (p := fun j => j) (ds_F0 h5) (fun n hn _ => ⟨h7 n hn, fun g => absurd g (by decide), fun g => absurd g (by decide)⟩) (fun _ => rfl) (fun post hp => ds_wait11 ?_) (fun post hp => ds_cls0 h5 ?_)))
        · rw [if_neg (fun o => o.elim (by decide) (ds_kge k0 kz k1 k2))] at hp
          exact hp
        · rw [if_pos rfl] at hp
          exact hp
theorem ds_cell {post : Int32 → Prop} {L : Nat} {xs : Nat → Int32} {i : Nat} (hL : L ≤ 5) (hi : i < 5) (h : ∀ r, post r) : wpL_cellAt post L xs () (nI i) := by
  exact pk_le L i (fun _ => h _) (fun z => ⟨pk_in i L z, h _⟩)
theorem i_vc (xs : Nat → Int32) (L : Nat) (hL : L ≤ 5) : wpL_law (fun r => r = 1) L xs := by
  unfold wpL_law
  refine ds_cell (i := 0) hL (by decide) (fun k => ?_)
  refine ds_cell (i := 1) hL (by decide) (fun x => ?_)
  refine ds_cell (i := 2) hL (by decide) (fun y => ?_)
  refine ds_cell (i := 3) hL (by decide) (fun z => ?_)
  refine ds_cell (i := 4) hL (by decide) (fun v => ?_)
  exact ⟨14, 342, by decide, by decide, ds_L (fun x5 x6 x7 hf => ds_138 hf)⟩
end
