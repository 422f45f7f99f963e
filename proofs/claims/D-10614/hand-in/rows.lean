section
/-! the words: one bit for the pair (x, y); bitAt; how many bits; all over finite tables -/
def sr_bit (x y : Nat) : Int64 := (1 : Int64) <<< (((6 * nI x) + nI y).toInt64 &&& 63)
def sr_at (w : Int64) (f : Int32) : Int32 := (((w.toUInt64 >>> (f.toInt64.toUInt64 &&& Int64.toUInt64 63)).toInt64) &&& 1).toInt32
def sr_cnt (w : Int64) : Nat → Int32
  | 0 => 0
  | n + 1 => sr_cnt w n + sr_at w (nI n)
/-- the word that fan counts -/
def sr_fw (w : Int64) (p : Int32) : Int64 := (((w.toUInt64 >>> ((6 * p).toInt64.toUInt64 &&& Int64.toUInt64 63)).toInt64) &&& 63)
theorem sr_c0 : sr_cnt 0 36 = 0 := by decide +kernel
theorem sr_c1 : ∀ x, x < 6 → ∀ y, y < 6 → sr_cnt (sr_bit x y) 36 = 1 := by decide +kernel
theorem sr_f0 : ∀ z, z < 6 → sr_cnt (sr_fw 0 (nI z)) 36 = 0 := by decide +kernel
theorem sr_f1 : ∀ x, x < 6 → ∀ y, y < 6 → ∀ z, z < 6 → sr_cnt (sr_fw (sr_bit x y) (nI z)) 36 = if z = x then 1 else 0 := by decide +kernel
theorem sr_h0 : ∀ k, k < 36 → sr_at 0 (nI k) = 0 := by decide +kernel
theorem sr_h1 : ∀ x, x < 6 → ∀ y, y < 6 → ∀ k, k < 36 → sr_at (sr_bit x y) (nI k) = if k = 6 * x + y then 1 else 0 := by decide +kernel
theorem sr_w1 : ∀ x, x < 6 → ∀ y, y < 6 → ¬ sr_bit x y &&& ((0 : Int64) ^^^ (-1)) = 0 := by decide +kernel
theorem sr_w2 : ∀ x, x < 6 → ∀ y, y < 6 → sr_bit x y &&& (sr_bit x y ^^^ (-1)) = 0 := by decide +kernel
theorem sr_six (x z : Nat) : 6 * nI x + nI z = nI (6 * x + z) := by
  have h : (6 : Int32) = nI 6 := rfl
  rw [h, pk_mul, nI_add]
/-! ints outside a range -/
def sr_NT (x : Int32) : Prop := x < 0 ∨ 5 < x
def sr_NR (x : Int32) : Prop := x < 0 ∨ 7 < x
theorem sr_gap5 {x : Int32} (h : 5 < x) : 6 ≤ x := by
  have e5 : (5 : Int32).toInt = 5 := by decide
  have e6 : (6 : Int32).toInt = 6 := by decide
  rw [Int32.lt_iff_toInt_lt, e5] at h
  rw [Int32.le_iff_toInt_le, e6]
  omega
theorem sr_gap7 {x : Int32} (h : 7 < x) : 8 ≤ x := by
  have e5 : (7 : Int32).toInt = 7 := by decide
  have e6 : (8 : Int32).toInt = 8 := by decide
  rw [Int32.lt_iff_toInt_lt, e5] at h
  rw [Int32.le_iff_toInt_le, e6]
  omega
theorem sr_th {x : Int32} (h : ¬ x < 0) (h5 : ¬ 5 < x) : ∃ j : Nat, j < 6 ∧ x = nI j := by
  obtain ⟨j, hj, e⟩ := nI_of2 (M := 5) (n := 5) (by decide) h (Int32.not_lt.mp h5)
  exact ⟨j, by omega, e⟩
theorem sr_re {x : Int32} (h : ¬ x < 0) (h5 : ¬ 7 < x) : ∃ j : Nat, j < 8 ∧ x = nI j := by
  obtain ⟨j, hj, e⟩ := nI_of2 (M := 7) (n := 7) (by decide) h (Int32.not_lt.mp h5)
  exact ⟨j, by omega, e⟩
theorem sr_neg1 {k : Nat} (hk : k < 2 ^ 31) : ¬ nI k ≤ (-1) := by
  have e : (-1 : Int32).toInt = -1 := by decide
  rw [Int32.le_iff_toInt_le, e, nI_toInt hk]
  omega
/-! arrays of words -/
theorem sr_same (f : Nat → Int64) (k : Nat) : vp_updL f k (f k) = f := by
  funext j
  by_cases e : j = k
  · rw [e, pk_uLs]
  · rw [pk_uLn e]
theorem sr_z0 {f : Nat → Int64} {k i : Nat} (h : ∀ j, j < i → f j = 0) : ∀ j, j < i → vp_updL f k 0 j = 0 := by
  intro j hj
  by_cases e : j = k
  · rw [e, pk_uLs]
  · rw [pk_uLn e]
    exact h j hj
theorem sr_fill {f s : Nat → Int64} {i : Nat} {v : Int64} (h : ∀ j, j < i → s j = f j) (hv : v = f i) : ∀ j, j < i + 1 → vp_updL s i v j = f j := by
  intro j hj
  by_cases e : j = i
  · rw [e, pk_uLs, hv]
  · rw [pk_uLn e]
    exact h j (by omega)
end
section
/-! the methods, over any state whose count of rules is 0 -/
section
variable {ds sk ps na wc wa me so : Int32} {a1 a2 a3 a4 a5 : Nat → Int64} {a6 a7 a8 a9 a10 a11 a12 a13 a14 : Nat → Int32}
theorem sr_rel1 {post : Int32 → Prop} {r : Nat} (hr : r < 8) (h : post 1) : wpX_isRelation post () (nI r) :=
  br_f (nI_pos (by omega)) (br_f (nI_ge (b := 8) hr (by decide)) h)
theorem sr_rel0 {post : Int32 → Prop} {p : Int32} (hp : sr_NR p) (h : post 0) : wpX_isRelation post () p :=
  br_c (fun _ => h) (fun g => br_t (sr_gap7 (hp.resolve_left g)) h)
theorem sr_thg1 {post : Int32 → Prop} {r : Nat} (hr : r < 6) (h : post 1) : wpX_isThing post () (nI r) :=
  br_f (nI_pos (by omega)) (br_f (nI_ge (b := 6) hr (by decide)) h)
theorem sr_thg0 {post : Int32 → Prop} {p : Int32} (hp : sr_NT p) (h : post 0) : wpX_isThing post () p :=
  br_c (fun _ => h) (fun g => br_t (sr_gap5 (hp.resolve_left g)) h)
theorem sr_ones {post : Int32 → Prop} {w : Int64} (H : post (sr_cnt w 36)) : wpX_ones post () w :=
  pk_loop (σ := Int32) (fun n i s => wX_ones_4 post w n s (nI i)) (fun i s => s = sr_cnt w i) 36 0 0 (by omega) rfl
    (fun n s h => pk_le 36 36 (fun _ => by rw [h]; exact H) (fun z => absurd z (by omega)))
    (fun n i s hi h hw => pk_le 36 i (fun z => absurd z (by omega)) (fun _ => nm_e (nm_r (nI_1 i) (hw _ (by rw [h]; rfl)))))
theorem sr_settle {post : Int32 → St2 → Prop} {A : Nat → Int64} (h2 : ∀ j, j < 8 → a2 j = A j) (h4 : ∀ j, j < 8 → a4 j = 0)
    (H : ∀ b2 b3 b4 : Nat → Int64, (∀ j, j < 8 → b2 j = A j) → (∀ j, j < 8 → b4 j = 0) → post 0 (0, ds, sk, ps, na, wc, wa, me, so, a1, b2, b3, b4, a5, a6, a7, a8, a9, a10, a11, a12, a13, a14)) :
    wpX_settle post (0, ds, sk, ps, na, wc, wa, me, so, a1, a2, a3, a4, a5, a6, a7, a8, a9, a10, a11, a12, a13, a14) :=
  pk_loop (σ := (Nat → Int64) × (Nat → Int64) × (Nat → Int64)) (fun n i s => wX_settle_4 post 0 ds sk ps na wc wa me so n 0 (nI i) a1 s.1 s.2.1 s.2.2 a5 a6 a7 a8 a9 a10 a11 a12 a13 a14) (fun _ s => (∀ j, j < 8 → s.1 j = A j) ∧ (∀ j, j < 8 → s.2.2 j = 0)) 8 0 (a2, a3, a4) (by omega) ⟨h2, h4⟩
    (fun n s h => pk_le 8 8 (fun _ => ⟨rfl, H s.1 s.2.1 s.2.2 h.1 h.2⟩) (fun z => absurd z (by omega)))
    (fun n i s hi h hw => pk_le 8 i (fun z => absurd z (by omega)) (fun _ => ⟨pk_in i 8 hi, pk_in i 8 hi, pk_in i 8 hi,
      nm_r (e' := vp_updL s.2.1 i 0) (by rw [nI_clamp (by omega), h.2 i hi, Int64.zero_and]) ⟨pk_in i 8 hi, pk_in i 8 hi, pk_in i 8 hi,
        nm_r (e' := s.1) (by rw [nI_clamp (by omega), pk_uLs, Int64.or_zero, sr_same]) ⟨pk_in i 8 hi,
          nm_r (e' := vp_updL s.2.2 i 0) (by rw [nI_clamp (by omega)]) (br_t rfl ⟨pk_in i 8 hi,
            br_t (by rw [nI_clamp (by omega), pk_uLs]) (nm_r (nI_1 i) (hw (s.1, vp_updL s.2.1 i 0, vp_updL s.2.2 i 0) ⟨h.1, sr_z0 h.2⟩))⟩)⟩⟩⟩))
theorem sr_solve42 {post : St2 → Prop} {A : Nat → Int64} (h2 : ∀ j, j < 8 → a2 j = A j) (h4 : ∀ j, j < 8 → a4 j = 0)
    (H : ∀ b2 b3 b4 : Nat → Int64, (∀ j, j < 8 → b2 j = A j) → post (0, ds, sk, ps, na, wc, wa, me, so, a1, b2, b3, b4, a5, a6, a7, a8, a9, a10, a11, a12, a13, a14)) :
    ∃ n, wX_solve_42 post n 0 0 ds sk ps na wc wa me so a1 a2 a3 a4 a5 a6 a7 a8 a9 a10 a11 a12 a13 a14 :=
  pk_loop (σ := (Nat → Int64) × (Nat → Int64) × (Nat → Int64)) (fun n i s => wX_solve_42 post n (nI i) 0 ds sk ps na wc wa me so a1 s.1 s.2.1 s.2.2 a5 a6 a7 a8 a9 a10 a11 a12 a13 a14) (fun _ s => (∀ j, j < 8 → s.1 j = A j) ∧ (∀ j, j < 8 → s.2.2 j = 0)) 4 0 (a2, a3, a4) (by omega) ⟨h2, h4⟩
    (fun n s h => pk_le 4 4 (fun _ => H s.1 s.2.1 s.2.2 h.1) (fun z => absurd z (by omega)))
    (fun n i s hi h hw => pk_le 4 i (fun z => absurd z (by omega)) (fun _ => ⟨1, pk_le 0 0 (fun _ => sr_settle (A := A) h.1 h.2 (fun b2 b3 b4 k2 k4 =>
      ⟨1, pk_le 74 0 (fun z => absurd z (by omega)) (fun _ => br_t rfl (nm_r (nI_1 i) (hw (b2, b3, b4) ⟨k2, k4⟩)))⟩)) (fun z => absurd z (by omega))⟩))
theorem sr_solve {post : St2 → Prop} (H : ∀ b2 b3 b4 : Nat → Int64, (∀ j, j < 8 → b2 j = a1 j) → post (0, ds, sk, ps, na, wc, wa, me, so, a1, b2, b3, b4, a5, a6, a7, a8, a9, a10, a11, a12, a13, a14)) :
    wpX_solve post (0, ds, sk, ps, na, wc, wa, me, so, a1, a2, a3, a4, a5, a6, a7, a8, a9, a10, a11, a12, a13, a14) :=
  pk_loop (σ := (Nat → Int64) × (Nat → Int64) × (Nat → Int64)) (fun n i s => wX_solve_2 post 0 ds sk ps na wc wa me so n (nI i) a1 s.1 s.2.1 s.2.2 a5 a6 a7 a8 a9 a10 a11 a12 a13 a14) (fun i s => (∀ j, j < i → s.1 j = a1 j) ∧ (∀ j, j < i → s.2.2 j = 0)) 8 0 (a2, a3, a4) (by omega)
    ⟨fun j hj => absurd hj (by omega), fun j hj => absurd hj (by omega)⟩
    (fun n s h => pk_le 8 8 (fun _ => sr_solve42 (A := a1) h.1 h.2 H) (fun z => absurd z (by omega)))
    (fun n i s hi h hw => pk_le 8 i (fun z => absurd z (by omega)) (fun _ => ⟨pk_in i 8 hi, pk_in i 8 hi,
      nm_r (e' := vp_updL s.1 i (a1 i)) (by rw [nI_clamp (by omega)]) ⟨pk_in i 8 hi, nm_e ⟨pk_in i 8 hi,
        nm_r (e' := vp_updL s.2.2 i 0) (by rw [nI_clamp (by omega)]) (nm_r (nI_1 i) (hw (vp_updL s.1 i (a1 i), _, vp_updL s.2.2 i 0) ⟨sr_fill h.1 rfl, sr_fill (f := fun _ => 0) h.2 rfl⟩))⟩⟩⟩))
theorem sr_refresh0 {post : St2 → Prop} (H : ∀ b2 b3 b4 : Nat → Int64, (∀ j, j < 8 → b2 j = a1 j) → post (0, ds, sk, ps, na, wc, wa, me, 1, a1, b2, b3, b4, a5, a6, a7, a8, a9, a10, a11, a12, a13, a14)) :
    wpX_refresh post (0, ds, sk, ps, na, wc, wa, me, 0, a1, a2, a3, a4, a5, a6, a7, a8, a9, a10, a11, a12, a13, a14) := by
  unfold wpX_refresh
  exact br_t rfl (sr_solve H)
theorem sr_refresh1 {post : St2 → Prop} (H : post (0, ds, sk, ps, na, wc, wa, me, 1, a1, a2, a3, a4, a5, a6, a7, a8, a9, a10, a11, a12, a13, a14)) : wpX_refresh post (0, ds, sk, ps, na, wc, wa, me, 1, a1, a2, a3, a4, a5, a6, a7, a8, a9, a10, a11, a12, a13, a14) := by
  unfold wpX_refresh
  exact br_f (by decide) H
end
end
section
/-! the calls that the law makes -/
section
variable {ds sk ps na wc wa me so : Int32} {a1 a2 a3 a4 a5 : Nat → Int64} {a6 a7 a8 a9 a10 a11 a12 a13 a14 : Nat → Int32}
variable {post : Int32 → St2 → Prop}
theorem sr_give_r0 {p p1 p2 p3 : Int32} (hp : sr_NR p) (H : post (-1) (0, ds, sk, ps, na, wc, wa, me, so, a1, a2, a3, a4, a5, a6, a7, a8, a9, a10, a11, a12, a13, a14)) : wpX_give post (0, ds, sk, ps, na, wc, wa, me, so, a1, a2, a3, a4, a5, a6, a7, a8, a9, a10, a11, a12, a13, a14) p p1 p2 p3 := by
  unfold wpX_give
  exact sr_rel0 hp (br_t rfl H)
theorem sr_give_x0 {r : Nat} {p1 p2 p3 : Int32} (hr : r < 8) (hp : sr_NT p1) (H : post (-2) (0, ds, sk, ps, na, wc, wa, me, so, a1, a2, a3, a4, a5, a6, a7, a8, a9, a10, a11, a12, a13, a14)) : wpX_give post (0, ds, sk, ps, na, wc, wa, me, so, a1, a2, a3, a4, a5, a6, a7, a8, a9, a10, a11, a12, a13, a14) (nI r) p1 p2 p3 := by
  unfold wpX_give
  exact sr_rel1 hr (br_f (by decide) (sr_thg0 hp (br_t rfl H)))
theorem sr_give_y0 {r x : Nat} {p2 p3 : Int32} (hr : r < 8) (hx : x < 6) (hp : sr_NT p2) (H : post (-2) (0, ds, sk, ps, na, wc, wa, me, so, a1, a2, a3, a4, a5, a6, a7, a8, a9, a10, a11, a12, a13, a14)) : wpX_give post (0, ds, sk, ps, na, wc, wa, me, so, a1, a2, a3, a4, a5, a6, a7, a8, a9, a10, a11, a12, a13, a14) (nI r) (nI x) p2 p3 := by
  unfold wpX_give
  exact sr_rel1 hr (br_f (by decide) (sr_thg1 hx (br_f (by decide) (sr_thg0 hp (br_t rfl H)))))
theorem sr_give_1 {r x y : Nat} {p3 : Int32} (hr : r < 8) (hx : x < 6) (hy : y < 6) (h0 : a1 r = 0)
    (H0 : p3 = 0 → post 0 (0, ds, sk, ps, na, wc, wa, me, 0, vp_updL a1 r 0, a2, a3, a4, a5, a6, a7, a8, a9, a10, a11, a12, a13, a14))
    (H1 : ¬ p3 = 0 → post 0 (0, ds, sk, ps, na, wc, wa, me, 0, vp_updL a1 r (sr_bit x y), a2, a3, a4, a5, a6, a7, a8, a9, a10, a11, a12, a13, a14)) : wpX_give post (0, ds, sk, ps, na, wc, wa, me, so, a1, a2, a3, a4, a5, a6, a7, a8, a9, a10, a11, a12, a13, a14) (nI r) (nI x) (nI y) p3 := by
  unfold wpX_give
  refine sr_rel1 hr (br_f (by decide) (sr_thg1 hx (br_f (by decide) (sr_thg1 hy (br_f (by decide) (nm_r (e' := sr_bit x y) rfl ⟨pk_in r 8 hr, br_t (by rw [nI_clamp (by omega), h0, Int64.zero_and]) ?_⟩))))))
  unfold wX_give_55
  exact br_c (fun g => ⟨pk_in r 8 hr, pk_in r 8 hr, nm_r (by rw [nI_clamp (by omega), h0, Int64.zero_and]) (H0 g)⟩) (fun g => ⟨pk_in r 8 hr, pk_in r 8 hr, nm_r (by rw [nI_clamp (by omega), h0, Int64.zero_or]) (H1 g)⟩)
theorem sr_size_r0 {p : Int32} (hp : sr_NR p) (H : post (-1) (0, ds, sk, ps, na, wc, wa, me, so, a1, a2, a3, a4, a5, a6, a7, a8, a9, a10, a11, a12, a13, a14)) : wpX_size post (0, ds, sk, ps, na, wc, wa, me, so, a1, a2, a3, a4, a5, a6, a7, a8, a9, a10, a11, a12, a13, a14) p := by
  unfold wpX_size
  exact sr_rel0 hp (br_t rfl H)
theorem sr_size_1 {r : Nat} (hr : r < 8) (H : ∀ b2 b3 b4 : Nat → Int64, (∀ j, j < 8 → b2 j = a1 j) → post (sr_cnt (a1 r) 36) (0, ds, sk, ps, na, wc, wa, me, 1, a1, b2, b3, b4, a5, a6, a7, a8, a9, a10, a11, a12, a13, a14)) :
    wpX_size post (0, ds, sk, ps, na, wc, wa, me, 0, a1, a2, a3, a4, a5, a6, a7, a8, a9, a10, a11, a12, a13, a14) (nI r) := by
  unfold wpX_size
  refine sr_rel1 hr (br_f (by decide) (sr_refresh0 (fun b2 b3 b4 h => ⟨pk_in r 8 hr, ?_⟩)))
  have e : b2 (nI r).toNatClampNeg = a1 r := by rw [nI_clamp (by omega), h r hr]
  rw [e]
  exact sr_ones (H b2 b3 b4 h)
theorem sr_holds_r0 {p p1 p2 : Int32} (hp : sr_NR p) (H : post (-1) (0, ds, sk, ps, na, wc, wa, me, so, a1, a2, a3, a4, a5, a6, a7, a8, a9, a10, a11, a12, a13, a14)) : wpX_holds post (0, ds, sk, ps, na, wc, wa, me, so, a1, a2, a3, a4, a5, a6, a7, a8, a9, a10, a11, a12, a13, a14) p p1 p2 := by
  unfold wpX_holds
  exact sr_rel0 hp (br_t rfl H)
/-- what holds answers -/
def sr_HV (w : Int64) (p1 p2 v : Int32) : Prop := (sr_NT p1 ∧ v = -2) ∨ ∃ x : Nat, x < 6 ∧ p1 = nI x ∧ ((sr_NT p2 ∧ v = -2) ∨ ∃ z : Nat, z < 6 ∧ p2 = nI z ∧ v = sr_at w (nI (6 * x + z)))
theorem sr_holds_1 {r : Nat} {p1 p2 v : Int32} (hr : r < 8) (hv : sr_HV (a2 r) p1 p2 v) (H : post v (0, ds, sk, ps, na, wc, wa, me, 1, a1, a2, a3, a4, a5, a6, a7, a8, a9, a10, a11, a12, a13, a14)) : wpX_holds post (0, ds, sk, ps, na, wc, wa, me, 1, a1, a2, a3, a4, a5, a6, a7, a8, a9, a10, a11, a12, a13, a14) (nI r) p1 p2 := by
  unfold wpX_holds
  rcases hv with ⟨n1, e⟩ | ⟨x, hx, e1, ⟨n2, e⟩ | ⟨z, hz, e2, e⟩⟩
  · rw [e] at H
    exact sr_rel1 hr (br_f (by decide) (sr_thg0 n1 (br_t rfl H)))
  · rw [e] at H
    rw [e1]
    exact sr_rel1 hr (br_f (by decide) (sr_thg1 hx (br_f (by decide) (sr_thg0 n2 (br_t rfl H)))))
  · rw [e1, e2]
    refine sr_rel1 hr (br_f (by decide) (sr_thg1 hx (br_f (by decide) (sr_thg1 hz (br_f (by decide) (sr_refresh1 ⟨pk_in r 8 hr, ?_⟩))))))
    rw [nI_clamp (by omega), sr_six]
    rw [e] at H
    exact H
theorem sr_fan_r0 {p p1 : Int32} (hp : sr_NR p) (H : post (-1) (0, ds, sk, ps, na, wc, wa, me, so, a1, a2, a3, a4, a5, a6, a7, a8, a9, a10, a11, a12, a13, a14)) : wpX_fan post (0, ds, sk, ps, na, wc, wa, me, so, a1, a2, a3, a4, a5, a6, a7, a8, a9, a10, a11, a12, a13, a14) p p1 := by
  unfold wpX_fan
  exact sr_rel0 hp (br_t rfl H)
theorem sr_fan_x0 {r : Nat} {p1 : Int32} (hr : r < 8) (hp : sr_NT p1) (H : post (-2) (0, ds, sk, ps, na, wc, wa, me, so, a1, a2, a3, a4, a5, a6, a7, a8, a9, a10, a11, a12, a13, a14)) : wpX_fan post (0, ds, sk, ps, na, wc, wa, me, so, a1, a2, a3, a4, a5, a6, a7, a8, a9, a10, a11, a12, a13, a14) (nI r) p1 := by
  unfold wpX_fan
  exact sr_rel1 hr (br_f (by decide) (sr_thg0 hp (br_t rfl H)))
theorem sr_fan_1 {r z : Nat} (hr : r < 8) (hz : z < 6) (H : post (sr_cnt (sr_fw (a2 r) (nI z)) 36) (0, ds, sk, ps, na, wc, wa, me, 1, a1, a2, a3, a4, a5, a6, a7, a8, a9, a10, a11, a12, a13, a14)) : wpX_fan post (0, ds, sk, ps, na, wc, wa, me, 1, a1, a2, a3, a4, a5, a6, a7, a8, a9, a10, a11, a12, a13, a14) (nI r) (nI z) := by
  unfold wpX_fan
  refine sr_rel1 hr (br_f (by decide) (sr_thg1 hz (br_f (by decide) (sr_refresh1 ⟨pk_in r 8 hr, ?_⟩))))
  rw [nI_clamp (by omega)]
  exact sr_ones H
theorem sr_next_none {r : Nat} {x3 : Int32} (hr : r < 8) (h : ∀ i, i < 36 → nI i ≤ x3 ∨ ¬ sr_at (a2 r) (nI i) = 1) (H : post (-2) (0, ds, sk, ps, na, wc, wa, me, so, a1, a2, a3, a4, a5, a6, a7, a8, a9, a10, a11, a12, a13, a14)) :
    ∃ n, wX_next_27 post (nI r) x3 0 ds sk ps na wc wa me so a1 a2 a3 a4 a5 a6 a7 a8 a9 a10 a11 a12 a13 a14 n 0 :=
  pk_loop (σ := Unit) (fun n i _ => wX_next_27 post (nI r) x3 0 ds sk ps na wc wa me so a1 a2 a3 a4 a5 a6 a7 a8 a9 a10 a11 a12 a13 a14 n (nI i)) (fun _ _ => True) 36 0 () (by omega) trivial
    (fun n _ _ => pk_le 36 36 (fun _ => H) (fun z => absurd z (by omega)))
    (fun n i _ hi _ hw => pk_le 36 i (fun z => absurd z (by omega)) (fun _ => br_c (fun _ => nm_r (nI_1 i) (hw () trivial))
      (fun g => ⟨pk_in r 8 hr, br_f (by rw [nI_clamp (by omega)]; exact (h i hi).resolve_left g) (nm_r (nI_1 i) (hw () trivial))⟩)))
theorem sr_next_at {r t : Nat} {x3 : Int32} (hr : r < 8) (ht : t < 36) (h1 : ¬ nI t ≤ x3) (h2 : sr_at (a2 r) (nI t) = 1) (h : ∀ i, i < t → nI i ≤ x3 ∨ ¬ sr_at (a2 r) (nI i) = 1)
    (H : post (nI t) (0, ds, sk, ps, na, wc, wa, me, so, a1, a2, a3, a4, a5, a6, a7, a8, a9, a10, a11, a12, a13, a14)) : ∃ n, wX_next_27 post (nI r) x3 0 ds sk ps na wc wa me so a1 a2 a3 a4 a5 a6 a7 a8 a9 a10 a11 a12 a13 a14 n 0 :=
  pk_loop (σ := Unit) (fun n i _ => wX_next_27 post (nI r) x3 0 ds sk ps na wc wa me so a1 a2 a3 a4 a5 a6 a7 a8 a9 a10 a11 a12 a13 a14 n (nI i)) (fun _ _ => True) t 0 () (by omega) trivial
    (fun n _ _ => pk_le 36 t (fun z => absurd z (by omega)) (fun _ => br_f h1 ⟨pk_in r 8 hr, br_t (by rw [nI_clamp (by omega)]; exact h2) H⟩))
    (fun n i _ hi _ hw => pk_le 36 i (fun z => absurd z (by omega)) (fun _ => br_c (fun _ => nm_r (nI_1 i) (hw () trivial))
      (fun g => ⟨pk_in r 8 hr, br_f (by rw [nI_clamp (by omega)]; exact (h i hi).resolve_left g) (nm_r (nI_1 i) (hw () trivial))⟩)))
theorem sr_next_r0 {p p1 : Int32} (hp : sr_NR p) (H : post (-1) (0, ds, sk, ps, na, wc, wa, me, so, a1, a2, a3, a4, a5, a6, a7, a8, a9, a10, a11, a12, a13, a14)) : wpX_next post (0, ds, sk, ps, na, wc, wa, me, so, a1, a2, a3, a4, a5, a6, a7, a8, a9, a10, a11, a12, a13, a14) p p1 := by
  unfold wpX_next
  exact sr_rel0 hp (br_t rfl H)
/-- what next answers -/
def sr_NV (w : Int64) (p v : Int32) : Prop := ((∀ i, i < 36 → nI i ≤ p ∨ ¬ sr_at w (nI i) = 1) ∧ v = -2) ∨ ∃ t : Nat, t < 36 ∧ ¬ nI t ≤ p ∧ sr_at w (nI t) = 1 ∧ (∀ i, i < t → nI i ≤ p ∨ ¬ sr_at w (nI i) = 1) ∧ v = nI t
theorem sr_low {p : Int32} (g : ¬ (-1) ≤ p) {i : Nat} (hi : i < 36) : ¬ nI i ≤ p := by
  have e : (-1 : Int32).toInt = -1 := by decide
  rw [Int32.le_iff_toInt_le, e] at g
  rw [Int32.le_iff_toInt_le, nI_toInt (by omega)]
  omega
theorem sr_next_1 {r : Nat} {p v : Int32} (hr : r < 8) (hv : sr_NV (a2 r) p v) (H : post v (0, ds, sk, ps, na, wc, wa, me, 1, a1, a2, a3, a4, a5, a6, a7, a8, a9, a10, a11, a12, a13, a14)) : wpX_next post (0, ds, sk, ps, na, wc, wa, me, 1, a1, a2, a3, a4, a5, a6, a7, a8, a9, a10, a11, a12, a13, a14) (nI r) p := by
  unfold wpX_next
  refine sr_rel1 hr (br_f (by decide) (sr_refresh1 (br_c (fun g => ?_) (fun g => ?_))))
  · rcases hv with ⟨h, e⟩ | ⟨t, ht, h1, h2, h, e⟩
    · rw [e] at H
      exact sr_next_none hr h H
    · rw [e] at H
      exact sr_next_at hr ht h1 h2 h H
  · rcases hv with ⟨h, e⟩ | ⟨t, ht, h1, h2, h, e⟩
    · rw [e] at H
      exact sr_next_none hr (fun i hi => Or.inr ((h i hi).resolve_left (sr_low g hi))) H
    · rw [e] at H
      exact sr_next_at hr ht (sr_neg1 (by omega)) h2 (fun i hi => Or.inr ((h i hi).resolve_left (sr_low g (by omega)))) H
theorem sr_within_r0 {p p1 : Int32} (hp : sr_NR p) (H : post (-1) (0, ds, sk, ps, na, wc, wa, me, so, a1, a2, a3, a4, a5, a6, a7, a8, a9, a10, a11, a12, a13, a14)) : wpX_within post (0, ds, sk, ps, na, wc, wa, me, so, a1, a2, a3, a4, a5, a6, a7, a8, a9, a10, a11, a12, a13, a14) p p1 := by
  unfold wpX_within
  exact sr_rel0 hp (br_t rfl H)
theorem sr_within_1 {r : Nat} (hr : r < 8) (H1 : a2 r &&& (a2 3 ^^^ (-1)) = 0 → post 1 (0, ds, sk, ps, na, wc, wa, me, 1, a1, a2, a3, a4, a5, a6, a7, a8, a9, a10, a11, a12, a13, a14)) (H0 : ¬ a2 r &&& (a2 3 ^^^ (-1)) = 0 → post 0 (0, ds, sk, ps, na, wc, wa, me, 1, a1, a2, a3, a4, a5, a6, a7, a8, a9, a10, a11, a12, a13, a14)) :
    wpX_within post (0, ds, sk, ps, na, wc, wa, me, 1, a1, a2, a3, a4, a5, a6, a7, a8, a9, a10, a11, a12, a13, a14) (nI r) 3 := by
  unfold wpX_within
  refine sr_rel1 hr (br_f (by decide) (sr_rel1 (r := 3) (by omega) (br_f (by decide) (sr_refresh1 ⟨pk_in r 8 hr, pk_in 3 8 (by omega), ?_⟩))))
  rw [nI_clamp (by omega)]
  exact br_c H1 H0
end
end
section
/-! the law, from its last check back to its first -/
section
variable {ds sk ps na wc wa me so : Int32} {a1 a2 a3 a4 a5 : Nat → Int64} {a6 a7 a8 a9 a10 a11 a12 a13 a14 : Nat → Int32}
variable {post : Int32 → St0 → Prop} {mc ms kc ks : Nat}
variable {x0 x1 x2 x3 x4 x7 x9 x10 z0 z1 : Int32}
/-! the relation is out of range: every call answers -1 -/
theorem sr_A321 (hr : sr_NR x0) (hp : post 1 ()) : wL_lawOf_321 post mc ms x0 0 x9 (-1) (-1) kc ks 0 ds sk ps na wc wa me so a1 a2 a3 a4 a5 a6 a7 a8 a9 a10 a11 a12 a13 a14 := by
  unfold wL_lawOf_321
  exact br_t rfl (sr_within_r0 hr (br_t rfl (br_t rfl hp)))
theorem sr_A272 (hr : sr_NR x0) (hp : post 1 ()) : wL_lawOf_272 post mc ms x0 x1 x2 x4 0 x9 (-1) (-1) kc ks 0 ds sk ps na wc wa me so a1 a2 a3 a4 a5 a6 a7 a8 a9 a10 a11 a12 a13 a14 := by
  unfold wL_lawOf_272
  exact br_t rfl (sr_next_r0 hr (br_t rfl (sr_A321 hr hp)))
theorem sr_A211 (hr : sr_NR x0) (hp : post 1 ()) : wL_lawOf_211 post mc ms x0 x1 x2 x4 0 x9 x10 (-1) kc ks 0 ds sk ps na wc wa me so a1 a2 a3 a4 a5 a6 a7 a8 a9 a10 a11 a12 a13 a14 := by
  unfold wL_lawOf_211
  exact sr_holds_r0 hr (br_t rfl (sr_fan_r0 hr (br_t rfl (sr_A272 hr hp))))
theorem sr_A169 (hr : sr_NR x0) (hp : post 1 ()) : wL_lawOf_169 post mc ms x0 x1 x2 x4 0 x7 x9 z0 kc ks 0 ds sk ps na wc wa me so a1 a2 a3 a4 a5 a6 a7 a8 a9 a10 a11 a12 a13 a14 := by
  unfold wL_lawOf_169
  exact br_t rfl (sr_A211 hr hp)
theorem sr_A148 (hr : sr_NR x0) (hp : post 1 ()) : wL_lawOf_148 post mc ms x0 x1 x2 x4 0 x7 x9 (-1) (-1) kc ks 0 ds sk ps na wc wa me so a1 a2 a3 a4 a5 a6 a7 a8 a9 a10 a11 a12 a13 a14 := by
  unfold wL_lawOf_148
  exact br_t rfl (br_c (fun _ => sr_A169 hr hp) (fun _ => br_c (fun _ => sr_A169 hr hp) (fun _ => sr_A169 hr hp)))
theorem sr_A121 (hr : sr_NR x0) (hp : post 1 ()) : wL_lawOf_121 post mc ms x0 x1 x2 x4 0 x7 z0 kc ks 0 ds sk ps na wc wa me so a1 a2 a3 a4 a5 a6 a7 a8 a9 a10 a11 a12 a13 a14 := by
  unfold wL_lawOf_121
  exact sr_size_r0 hr (br_t rfl (sr_A148 hr hp))
theorem sr_A92 (hr : sr_NR x0) (hp : post 1 ()) {x8 : Int32} : wL_lawOf_92 post mc ms x0 x1 x2 x3 x4 0 x7 x8 (-1) (-1) kc ks 0 ds sk ps na wc wa me so a1 a2 a3 a4 a5 a6 a7 a8 a9 a10 a11 a12 a13 a14 := by
  unfold wL_lawOf_92
  exact br_t rfl (br_t rfl (sr_A121 hr hp))
theorem sr_A56 (hr : sr_NR x0) (hp : post 1 ()) : wL_lawOf_56 post mc ms x0 x1 x2 x3 x4 0 x7 z0 kc ks 0 ds sk ps na wc wa me so a1 a2 a3 a4 a5 a6 a7 a8 a9 a10 a11 a12 a13 a14 := by
  unfold wL_lawOf_56
  exact sr_give_r0 hr (br_t rfl (sr_A92 hr hp))
theorem sr_A40 (hr : sr_NR x0) (hp : post 1 ()) : wL_lawOf_40 post mc ms x0 x1 x2 x3 x4 0 z0 kc ks 0 ds sk ps na wc wa me so a1 a2 a3 a4 a5 a6 a7 a8 a9 a10 a11 a12 a13 a14 := by
  unfold wL_lawOf_40
  exact br_c (fun _ => sr_A56 hr hp) (fun _ => br_c (fun _ => sr_A56 hr hp) (fun _ => sr_A56 hr hp))
theorem sr_A24 (hr : sr_NR x0) (hp : post 1 ()) : wL_lawOf_24 post mc ms x0 x1 x2 x3 x4 0 kc ks 0 ds sk ps na wc wa me so a1 a2 a3 a4 a5 a6 a7 a8 a9 a10 a11 a12 a13 a14 := by
  unfold wL_lawOf_24
  exact br_c (fun _ => sr_A40 hr hp) (fun _ => br_c (fun _ => sr_A40 hr hp) (fun _ => sr_A40 hr hp))
/-! the relation is in range: what each check rests on -/
def sr_W (w w3 : Int64) (r : Nat) (x9 : Int32) : Prop := (w &&& (w3 ^^^ (-1)) = 0 ∧ (x9 = 0 ∨ nI r = 3)) ∨ (¬ w &&& (w3 ^^^ (-1)) = 0 ∧ ¬ x9 = 0 ∧ ¬ nI r = 3)
def sr_N (w : Int64) (x1 x2 x4 x9 : Int32) : Prop := (sr_NV w x4 (-2) ∧ (x9 = 0 ∨ 6 * x1 + x2 ≤ x4)) ∨ (sr_NV w x4 (6 * x1 + x2) ∧ ¬ x9 = 0 ∧ ¬ 6 * x1 + x2 ≤ x4)
def sr_FV (w : Int64) (x1 x4 x9 x10 : Int32) : Prop := (x10 = 0 ∧ sr_NT x4) ∨ (¬ x10 = 0 ∧ ∃ z : Nat, z < 6 ∧ x4 = nI z ∧ ((sr_cnt (sr_fw w (nI z)) 36 = 0 ∧ (x9 = 0 ∨ ¬ x4 = x1)) ∨ (sr_cnt (sr_fw w (nI z)) 36 = 1 ∧ ¬ x9 = 0 ∧ x4 = x1)))
theorem sr_T321 {r : Nat} (hr : r < 8) (hp : post 1 ()) (hw : sr_W (a2 r) (a2 3) r x9) (e : z1 = z0) : wL_lawOf_321 post mc ms (nI r) 1 x9 z0 z1 kc ks 0 ds sk ps na wc wa me 1 a1 a2 a3 a4 a5 a6 a7 a8 a9 a10 a11 a12 a13 a14 := by
  unfold wL_lawOf_321
  refine br_t e (sr_within_1 hr (fun g => br_f (by decide) ?_) (fun g => br_f (by decide) ?_))
  · rcases hw with ⟨_, h | h⟩ | ⟨n, _, _⟩
    · exact br_t h (br_t rfl hp)
    · exact br_c (fun _ => br_t rfl hp) (fun _ => br_t h (br_t rfl hp))
    · exact absurd g n
  · rcases hw with ⟨n, _⟩ | ⟨_, n9, n3⟩
    · exact absurd n g
    · exact br_f n9 (br_f n3 (br_t rfl hp))
theorem sr_T272 {r : Nat} (hr : r < 8) (hp : post 1 ()) (hw : sr_W (a2 r) (a2 3) r x9) (hn : sr_N (a2 r) x1 x2 x4 x9) (e : z1 = z0) : wL_lawOf_272 post mc ms (nI r) x1 x2 x4 1 x9 z0 z1 kc ks 0 ds sk ps na wc wa me 1 a1 a2 a3 a4 a5 a6 a7 a8 a9 a10 a11 a12 a13 a14 := by
  unfold wL_lawOf_272
  refine br_t e ?_
  rcases hn with ⟨hv, h⟩ | ⟨hv, n9, nl⟩
  · exact sr_next_1 hr hv (br_f (by decide) (br_c (fun _ => sr_T321 hr hp hw rfl) (fun n => br_t (h.resolve_left n) (sr_T321 hr hp hw rfl))))
  · exact sr_next_1 hr hv (br_f (by decide) (br_f n9 (br_f nl (sr_T321 hr hp hw rfl))))
theorem sr_T211 {r : Nat} (hr : r < 8) (hp : post 1 ()) (hw : sr_W (a2 r) (a2 3) r x9) (hn : sr_N (a2 r) x1 x2 x4 x9) (hf : sr_FV (a2 r) x1 x4 x9 x10) (hh : sr_HV (a2 r) x1 x4 z0) : wL_lawOf_211 post mc ms (nI r) x1 x2 x4 1 x9 x10 z0 kc ks 0 ds sk ps na wc wa me 1 a1 a2 a3 a4 a5 a6 a7 a8 a9 a10 a11 a12 a13 a14 := by
  unfold wL_lawOf_211
  refine sr_holds_1 hr hh (br_t rfl ?_)
  rcases hf with ⟨e, nt⟩ | ⟨n, z, hz, e4, ⟨ec, h⟩ | ⟨ec, n9, e1⟩⟩
  · exact sr_fan_x0 hr nt (br_f (by decide) (br_t e (sr_T272 hr hp hw hn rfl)))
  · subst e4
    exact sr_fan_1 hr hz (br_f (by decide) (br_f n (br_c (fun _ => sr_T272 hr hp hw hn ec) (fun n9 => br_f (h.resolve_left n9) (sr_T272 hr hp hw hn ec)))))
  · subst e4
    exact sr_fan_1 hr hz (br_f (by decide) (br_f n (br_f n9 (br_t e1 (sr_T272 hr hp hw hn ec)))))
/-- a flag and the int that it speaks of -/
def sr_Fl (b x : Int32) : Prop := (b = 0 ∧ sr_NT x) ∨ (¬ b = 0 ∧ ∃ j : Nat, j < 6 ∧ x = nI j)
/-! nothing was made -/
theorem sr_U169 {r : Nat} (hr : r < 8) (hp : post 1 ()) (h2 : ∀ j, j < 8 → a2 j = 0) (hx : sr_Fl x7 x1) (hz : sr_Fl z0 x4) : wL_lawOf_169 post mc ms (nI r) x1 x2 x4 1 x7 0 z0 kc ks 0 ds sk ps na wc wa me 1 a1 a2 a3 a4 a5 a6 a7 a8 a9 a10 a11 a12 a13 a14 := by
  have hw : sr_W (a2 r) (a2 3) r 0 := Or.inl ⟨by rw [h2 r hr, Int64.zero_and], Or.inl rfl⟩
  have hn : sr_N (a2 r) x1 x2 x4 0 := Or.inl ⟨Or.inl ⟨fun i hi => Or.inr (by rw [h2 r hr, sr_h0 i hi]; decide), rfl⟩, Or.inl rfl⟩
  have hf : sr_FV (a2 r) x1 x4 0 z0 := by
    rcases hz with h | ⟨n, z, hz, e⟩
    · exact Or.inl h
    · exact Or.inr ⟨n, z, hz, e, Or.inl ⟨by rw [h2 r hr, sr_f0 z hz], Or.inl rfl⟩⟩
  unfold wL_lawOf_169
  refine br_f (by decide) ?_
  rcases hz with ⟨e, nt⟩ | ⟨n, z, hz, e⟩
  · refine br_t e (sr_T211 hr hp hw hn hf ?_)
    rcases hx with ⟨_, n1⟩ | ⟨_, x, hx, ex⟩
    · exact Or.inl ⟨n1, rfl⟩
    · exact Or.inr ⟨x, hx, ex, Or.inl ⟨nt, rfl⟩⟩
  · refine br_f n ?_
    rcases hx with ⟨e7, n1⟩ | ⟨n7, x, hx, ex⟩
    · exact br_t e7 (sr_T211 hr hp hw hn hf (Or.inl ⟨n1, rfl⟩))
    · exact br_f n7 (br_t rfl (sr_T211 hr hp hw hn hf (Or.inr ⟨x, hx, ex, Or.inr ⟨z, hz, e, by rw [h2 r hr, sr_h0 _ (by omega)]⟩⟩)))
theorem sr_U148 {r : Nat} (hr : r < 8) (hp : post 1 ()) (h2 : ∀ j, j < 8 → a2 j = 0) (hx : sr_Fl x7 x1) (e : z1 = z0) : wL_lawOf_148 post mc ms (nI r) x1 x2 x4 1 x7 0 z0 z1 kc ks 0 ds sk ps na wc wa me 1 a1 a2 a3 a4 a5 a6 a7 a8 a9 a10 a11 a12 a13 a14 := by
  unfold wL_lawOf_148
  exact br_t e (br_c (fun g => sr_U169 hr hp h2 hx (Or.inl ⟨rfl, Or.inl g⟩)) (fun g => br_c (fun g2 => sr_U169 hr hp h2 hx (Or.inl ⟨rfl, Or.inr g2⟩)) (fun g2 => sr_U169 hr hp h2 hx (Or.inr ⟨by decide, sr_th g g2⟩))))
theorem sr_U121 {r : Nat} (hr : r < 8) (hp : post 1 ()) (h1 : ∀ j, j < 8 → a1 j = 0) (hx : sr_Fl x7 x1) : wL_lawOf_121 post mc ms (nI r) x1 x2 x4 1 x7 0 kc ks 0 ds sk ps na wc wa me 0 a1 a2 a3 a4 a5 a6 a7 a8 a9 a10 a11 a12 a13 a14 := by
  unfold wL_lawOf_121
  exact sr_size_1 hr (fun b2 b3 b4 h => br_f (by decide) (br_t rfl (sr_U148 hr hp (fun j hj => (h j hj).trans (h1 j hj)) hx (by rw [h1 r hr, sr_c0]))))
/-! one fact was made -/
theorem sr_M169 {r x y : Nat} (hr : r < 8) (hx : x < 6) (hy : y < 6) (hp : post 1 ()) (h2 : a2 r = sr_bit x y) (h3 : ¬ r = 3 → a2 3 = 0) (n7 : ¬ x7 = 0) (hz : sr_Fl z0 x4) : wL_lawOf_169 post mc ms (nI r) (nI x) (nI y) x4 1 x7 1 z0 kc ks 0 ds sk ps na wc wa me 1 a1 a2 a3 a4 a5 a6 a7 a8 a9 a10 a11 a12 a13 a14 := by
  have hw : sr_W (a2 r) (a2 3) r 1 := by
    by_cases e : r = 3
    · subst e
      exact Or.inl ⟨by rw [h2]; exact sr_w2 x hx y hy, Or.inr rfl⟩
    · exact Or.inr ⟨by rw [h2, h3 e]; exact sr_w1 x hx y hy, by decide, fun g => e ((nI_eq (b := 3) (by omega) (by decide)).mp g)⟩
  have hb : ∀ i, i < 36 → ¬ i = 6 * x + y → ¬ sr_at (a2 r) (nI i) = 1 := by
    intro i hi n
    rw [h2, sr_h1 x hx y hy i hi, if_neg n]
    decide
  have hn : sr_N (a2 r) (nI x) (nI y) x4 1 := by
    by_cases g : 6 * nI x + nI y ≤ x4
    · refine Or.inl ⟨Or.inl ⟨fun i hi => ?_, rfl⟩, Or.inr g⟩
      by_cases ei : i = 6 * x + y
      · rw [sr_six] at g
        rw [ei]
        exact Or.inl g
      · exact Or.inr (hb i hi ei)
    · refine Or.inr ⟨Or.inr ⟨6 * x + y, by omega, ?_, ?_, fun i hi => Or.inr (hb i (by omega) (by omega)), sr_six x y⟩, by decide, g⟩
      · rw [sr_six] at g
        exact g
      · rw [h2, sr_h1 x hx y hy _ (by omega), if_pos rfl]
  have hf : sr_FV (a2 r) (nI x) x4 1 z0 := by
    rcases hz with h | ⟨n, z, hz, e⟩
    · exact Or.inl h
    · refine Or.inr ⟨n, z, hz, e, ?_⟩
      by_cases ez : z = x
      · exact Or.inr ⟨by rw [h2, sr_f1 x hx y hy z hz, if_pos ez], by decide, by rw [e, ez]⟩
      · exact Or.inl ⟨by rw [h2, sr_f1 x hx y hy z hz, if_neg ez], Or.inr (by rw [e, nI_eq (by omega) (by omega)]; exact ez)⟩
  unfold wL_lawOf_169
  refine br_f (by decide) ?_
  rcases hz with ⟨e, nt⟩ | ⟨n, z, hz, e⟩
  · exact br_t e (sr_T211 hr hp hw hn hf (Or.inr ⟨x, hx, rfl, Or.inl ⟨nt, rfl⟩⟩))
  · refine br_f n (br_f n7 (br_f (by decide) (br_c (fun g => sr_T211 hr hp hw hn hf ?_) (fun g => sr_T211 hr hp hw hn hf ?_))))
    · rw [e, nI_eq (by omega) (by omega)] at g
      exact Or.inr ⟨x, hx, rfl, Or.inr ⟨z, hz, e, by rw [h2, sr_h1 x hx y hy _ (by omega), if_pos (by omega)]⟩⟩
    · rw [e, nI_eq (by omega) (by omega)] at g
      exact Or.inr ⟨x, hx, rfl, Or.inr ⟨z, hz, e, by rw [h2, sr_h1 x hx y hy _ (by omega), if_neg (by omega)]⟩⟩
theorem sr_M148 {r x y : Nat} (hr : r < 8) (hx : x < 6) (hy : y < 6) (hp : post 1 ()) (h2 : a2 r = sr_bit x y) (h3 : ¬ r = 3 → a2 3 = 0) (n7 : ¬ x7 = 0) (e : z1 = z0) : wL_lawOf_148 post mc ms (nI r) (nI x) (nI y) x4 1 x7 1 z0 z1 kc ks 0 ds sk ps na wc wa me 1 a1 a2 a3 a4 a5 a6 a7 a8 a9 a10 a11 a12 a13 a14 := by
  unfold wL_lawOf_148
  exact br_t e (br_c (fun g => sr_M169 hr hx hy hp h2 h3 n7 (Or.inl ⟨rfl, Or.inl g⟩)) (fun g => br_c (fun g2 => sr_M169 hr hx hy hp h2 h3 n7 (Or.inl ⟨rfl, Or.inr g2⟩)) (fun g2 => sr_M169 hr hx hy hp h2 h3 n7 (Or.inr ⟨by decide, sr_th g g2⟩))))
theorem sr_M121 {r x y : Nat} (hr : r < 8) (hx : x < 6) (hy : y < 6) (hp : post 1 ()) (h1 : a1 r = sr_bit x y) (h3 : ¬ r = 3 → a1 3 = 0) (n7 : ¬ x7 = 0) : wL_lawOf_121 post mc ms (nI r) (nI x) (nI y) x4 1 x7 1 kc ks 0 ds sk ps na wc wa me 0 a1 a2 a3 a4 a5 a6 a7 a8 a9 a10 a11 a12 a13 a14 := by
  unfold wL_lawOf_121
  exact sr_size_1 hr (fun b2 b3 b4 h => br_f (by decide) (br_f (by decide) (sr_M148 hr hx hy hp ((h r hr).trans h1) (fun n => (h 3 (by omega)).trans (h3 n)) n7 (by rw [h1, sr_c1 x hx y hy]))))
/-! the first call -/
theorem sr_B56 {r : Nat} (hr : r < 8) (hp : post 1 ()) (h1 : ∀ j, j < 8 → a1 j = 0) (hx : sr_Fl x7 x1) (hy : sr_Fl z0 x2) : wL_lawOf_56 post mc ms (nI r) x1 x2 x3 x4 1 x7 z0 kc ks 0 ds sk ps na wc wa me 0 a1 a2 a3 a4 a5 a6 a7 a8 a9 a10 a11 a12 a13 a14 := by
  have hU : ∀ {b1 : Nat → Int64}, (∀ j, j < 8 → b1 j = 0) → wL_lawOf_121 post mc ms (nI r) x1 x2 x4 1 x7 0 kc ks 0 ds sk ps na wc wa me 0 b1 a2 a3 a4 a5 a6 a7 a8 a9 a10 a11 a12 a13 a14 := fun h => sr_U121 hr hp h hx
  unfold wL_lawOf_56
  rcases hx with ⟨e7, n1⟩ | ⟨n7, x, hx, ex⟩
  · refine sr_give_x0 hr n1 (br_f (by decide) (br_t e7 ?_))
    unfold wL_lawOf_90 wL_lawOf_92
    exact br_t rfl (br_f (by decide) (br_t e7 (hU h1)))
  · subst ex
    rcases hy with ⟨e0, n2⟩ | ⟨n0, y, hy, ey⟩
    · refine sr_give_y0 hr hx n2 (br_f (by decide) (br_f n7 (br_t e0 ?_)))
      unfold wL_lawOf_90 wL_lawOf_92
      exact br_t rfl (br_f (by decide) (br_f n7 (br_t e0 (hU h1))))
    · subst ey
      refine sr_give_1 hr hx hy (h1 r hr) (fun g => br_f (by decide) (br_f n7 (br_f n0 ?_))) (fun g => br_f (by decide) (br_f n7 (br_f n0 ?_)))
      · unfold wL_lawOf_92
        exact br_t rfl (br_f (by decide) (br_f n7 (br_f n0 (br_t g (hU (sr_z0 h1))))))
      · unfold wL_lawOf_92
        exact br_t rfl (br_f (by decide) (br_f n7 (br_f n0 (br_f g (sr_M121 hr hx hy hp pk_uLs (fun n => by rw [pk_uLn (fun z => n z.symm)]; exact h1 3 (by omega)) n7)))))
theorem sr_B40 {r : Nat} (hr : r < 8) (hp : post 1 ()) (h1 : ∀ j, j < 8 → a1 j = 0) (hx : sr_Fl z0 x1) : wL_lawOf_40 post mc ms (nI r) x1 x2 x3 x4 1 z0 kc ks 0 ds sk ps na wc wa me 0 a1 a2 a3 a4 a5 a6 a7 a8 a9 a10 a11 a12 a13 a14 := by
  unfold wL_lawOf_40
  exact br_c (fun g => sr_B56 hr hp h1 hx (Or.inl ⟨rfl, Or.inl g⟩)) (fun g => br_c (fun g2 => sr_B56 hr hp h1 hx (Or.inl ⟨rfl, Or.inr g2⟩)) (fun g2 => sr_B56 hr hp h1 hx (Or.inr ⟨by decide, sr_th g g2⟩)))
theorem sr_B24 {r : Nat} (hr : r < 8) (hp : post 1 ()) (h1 : ∀ j, j < 8 → a1 j = 0) : wL_lawOf_24 post mc ms (nI r) x1 x2 x3 x4 1 kc ks 0 ds sk ps na wc wa me 0 a1 a2 a3 a4 a5 a6 a7 a8 a9 a10 a11 a12 a13 a14 := by
  unfold wL_lawOf_24
  exact br_c (fun g => sr_B40 hr hp h1 (Or.inl ⟨rfl, Or.inl g⟩)) (fun g => br_c (fun g2 => sr_B40 hr hp h1 (Or.inl ⟨rfl, Or.inr g2⟩)) (fun g2 => sr_B40 hr hp h1 (Or.inr ⟨by decide, sr_th g g2⟩)))
end
end
section
/-! the object is made; the script's cells -/
theorem sr_init {post : St2 → Prop} (H : post (0, 0, (-1), 0, 0, 0, 0, 0, 0, (fun _ => 0), (fun _ => 0), (fun _ => 0), (fun _ => 0), (fun _ => 0), (fun _ => 0), (fun _ => 0), (fun _ => 0), (fun _ => 0), (fun _ => 0), (fun _ => 0), (fun _ => 0), (fun _ => 0), (fun _ => 0))) :
    wpX_init post 14 181 (0, 0, 0, 0, 0, 0, 0, 0, 0) :=
  ⟨by decide, by decide, by decide, by decide, by decide, by decide, by decide, by decide, by decide, by decide, by decide, by decide, by decide, by decide, by decide, by decide, by decide, by decide, by decide, by decide, by decide, by decide, by decide, by decide, by decide, by decide, by decide, by decide, H⟩
theorem sr_lawOf {post : Int32 → St0 → Prop} {p0 p1 p2 p3 p4 : Int32} (hp : post 1 ()) : wpL_lawOf post 15 204 () p0 p1 p2 p3 p4 := by
  unfold wpL_lawOf
  refine ⟨by decide, by decide, 14, 181, by decide, by decide, sr_init (br_c (fun g => sr_A24 (Or.inl g) hp) (fun g => br_c (fun g2 => sr_A24 (Or.inr g2) hp) (fun g2 => ?_)))⟩
  obtain ⟨r, hr, e⟩ := sr_re g g2
  subst e
  exact sr_B24 hr hp (fun _ _ => rfl)
theorem sr_cell {post : Int32 → Prop} {L : Nat} {xs : Nat → Int32} (hL : L ≤ 5) (k : Nat) (hk : k < 5) (H : ∀ v, post v) : wpL_cellAt post L xs () (nI k) :=
  pk_le L k (fun _ => H _) (fun g => ⟨pk_in k L g, H _⟩)
theorem i_vc (xs : Nat → Int32) (L : Nat) (hL : L ≤ 5) : wpL_law (fun r => r = 1) L xs := by
  unfold wpL_law
  exact sr_cell hL 0 (by omega) (fun _ => sr_cell hL 1 (by omega) (fun _ => sr_cell hL 2 (by omega) (fun _ => sr_cell hL 3 (by omega) (fun _ => sr_cell hL 4 (by omega) (fun _ => ⟨15, 204, by decide, by decide, sr_lawOf rfl⟩)))))
end
