section
/-! the belief base at vars = 2: n = 2, worlds = 4, all = 15; one lemma a method, its post general -/
section
variable {d : Int32} {a1 a2 a3 a4 a5 : Nat → Int64} {b v : Int32}
/-- a good belief -/
def bb_G (b : Int32) : Prop := ¬ b < 0 ∧ ¬ 2 < b
theorem bb_G_nI (hb : bb_G b) : ∃ j : Nat, j ≤ 2 ∧ b = nI j :=
  nI_of2 (M := 2) (n := 2) (by decide) hb.1 (Int32.not_lt.mp hb.2)
theorem bb_in (hb : bb_G b) : vp_in b 3 := by
  obtain ⟨j, hj, rfl⟩ := bb_G_nI hb
  exact vp_in_nI (by omega) (by decide)
theorem bb_bel_t {post : Int32 → Prop} (hb : bb_G b) (h : post 1) : wpX_isBelief post () b := br_f hb.1 (br_f hb.2 h)
theorem bb_bel_f {post : Int32 → Prop} (hb : ¬ bb_G b) (h : post 0) : wpX_isBelief post () b :=
  br_c (fun _ => h) (fun z => br_c (fun _ => h) (fun y => absurd ⟨z, y⟩ hb))
theorem bb_var_t {post : Int32 → Prop} (hv : v = 0 ∨ v = 1) (h : post 1) : wpX_isVar post (2, d, 4, 15, a1, a2, a3, a4, a5) v := by
  rcases hv with rfl | rfl
  · exact br_f (by decide) (br_f (by decide) h)
  · exact br_f (by decide) (br_f (by decide) h)
theorem bb_ge2 (h0 : ¬ v = 0) (h1 : ¬ v = 1) (h : ¬ v < 0) : 2 ≤ v := by
  obtain ⟨j, hj, rfl⟩ := nI_of h
  have j0 : j ≠ 0 := fun z => h0 (by rw [z]; rfl)
  have j1 : j ≠ 1 := fun z => h1 (by rw [z]; rfl)
  exact nI_le (a := 2) (by omega) hj
theorem bb_var_f {post : Int32 → Prop} (h0 : ¬ v = 0) (h1 : ¬ v = 1) (h : post 0) : wpX_isVar post (2, d, 4, 15, a1, a2, a3, a4, a5) v :=
  br_c (fun _ => h) (fun z => br_t (bb_ge2 h0 h1 z) h)
theorem bb_atom_f {post : Int32 → St2 → Prop} (h0 : ¬ v = 0) (h1 : ¬ v = 1) (h : post (-1) (2, d, 4, 15, a1, a2, a3, a4, a5)) : wpX_atom post (2, d, 4, 15, a1, a2, a3, a4, a5) v := by
  unfold wpX_atom
  exact bb_var_f h0 h1 (br_t rfl h)
theorem bb_atom_t {post : Int32 → St2 → Prop} {e : Int32} {m : Int64} (hv : v = 0 ∨ v = 1) (hd : d = 0 ∨ d = 1) (he : d + 1 = e) (hm : 15 &&& ((a3 v.toNatClampNeg) ^^^ (-1)) = m)
    (h : post e (2, e, 4, 15, a1, vp_updL a2 d.toNatClampNeg m, a3, a4, a5)) : wpX_atom post (2, d, 4, 15, a1, a2, a3, a4, a5) v := by
  have k1 : ¬ d = 8 := by rcases hd with rfl | rfl <;> decide
  have k2 : vp_in v 6 := by rcases hv with rfl | rfl <;> exact vp_in_iff.mpr (by decide)
  have k3 : vp_in d 8 := by rcases hd with rfl | rfl <;> exact vp_in_iff.mpr (by decide)
  unfold wpX_atom
  exact bb_var_t hv (br_f (by decide) (br_f k1 ⟨k2, k3, nm_r (by rw [hm]) (nm_r he h)⟩))
theorem bb_pop {post : Int64 → St2 → Prop} {q : Int64} (h2 : a2 (0 : Int32).toNatClampNeg = q) (h : post q (2, 0, 4, 15, a1, a2, a3, a4, a5)) : wpX_pop post (2, 1, 4, 15, a1, a2, a3, a4, a5) := by
  subst h2
  unfold wpX_pop
  exact nm_r (e' := 0) (by decide) ⟨vp_in_iff.mpr (by decide), h⟩
theorem bb_ones {post : Int32 → Prop} {x : Int64} {r : Int32} (hr : wpX_ones (fun z => z = r) () x) (h : post r) : wpX_ones post () x := by
  intro x1 e1 x2 e2 x3 e3
  have t := hr x1 e1 x2 e2 x3 e3
  exact ek_v t h
theorem bb_become {post : Int32 → St2 → Prop} {m : Int64} {r : Int32} (hb : bb_G b) (ho : wpX_ones (fun z => z = r) () m)
    (h : post r (2, d, 4, 15, vp_updL a1 b.toNatClampNeg m, a2, a3, a4, a5)) : wpX_become post (2, d, 4, 15, a1, a2, a3, a4, a5) b m := by
  unfold wpX_become
  exact ⟨bb_in hb, nm_e (bb_ones ho h)⟩
theorem bb_exp_f {post : Int32 → St2 → Prop} (hb : ¬ bb_G b) (h : post (-1) (2, d, 4, 15, a1, a2, a3, a4, a5)) : wpX_expand post (2, d, 4, 15, a1, a2, a3, a4, a5) b := by
  unfold wpX_expand
  exact bb_bel_f hb (br_t rfl h)
theorem bb_exp_0 {post : Int32 → St2 → Prop} (hb : bb_G b) (h : post (-2) (2, 0, 4, 15, a1, a2, a3, a4, a5)) : wpX_expand post (2, 0, 4, 15, a1, a2, a3, a4, a5) b := by
  unfold wpX_expand
  exact bb_bel_t hb (br_f (by decide) (br_t rfl h))
theorem bb_exp_t {post : Int32 → St2 → Prop} {q m : Int64} {r : Int32} (hb : bb_G b) (h2 : a2 (0 : Int32).toNatClampNeg = q) (hm : (a1 b.toNatClampNeg) &&& q = m) (ho : wpX_ones (fun z => z = r) () m)
    (h : post r (2, 0, 4, 15, vp_updL a1 b.toNatClampNeg m, a2, a3, a4, a5)) : wpX_expand post (2, 1, 4, 15, a1, a2, a3, a4, a5) b := by
  subst hm
  unfold wpX_expand
  exact bb_bel_t hb (br_f (by decide) (br_f (by decide) (bb_pop h2 ⟨bb_in hb, bb_become hb ho h⟩)))
theorem bb_conn_0 {post : Int32 → St2 → Prop} (h : post (-2) (2, 0, 4, 15, a1, a2, a3, a4, a5)) : wpX_connect post (2, 0, 4, 15, a1, a2, a3, a4, a5) 0 :=
  br_f (by decide) (br_t (by decide) (br_t rfl (br_f (by decide) h)))
theorem bb_conn_1 {post : Int32 → St2 → Prop} {q m : Int64} (h2 : a2 (0 : Int32).toNatClampNeg = q) (hm : 15 &&& (q ^^^ (-1)) = m)
    (h : post 1 (2, 1, 4, 15, a1, vp_updL a2 (0 : Int32).toNatClampNeg m, a3, a4, a5)) : wpX_connect post (2, 1, 4, 15, a1, a2, a3, a4, a5) 0 := by
  subst h2
  subst hm
  refine br_f (by decide) (br_t (by decide) (br_t rfl ?_))
  unfold wX_connect_24
  rw [show (1 : Int32) - 1 = 0 by decide]
  exact br_t (by decide) ⟨vp_in_iff.mpr (by decide), nm_e (br_t rfl ⟨vp_in_iff.mpr (by decide), nm_e h⟩)⟩
theorem bb_conn_2 {post : Int32 → St2 → Prop} (h : ∀ s, post 2 (2, 2, 4, 15, a1, s, a3, a4, a5)) : wpX_connect post (2, 2, 4, 15, a1, a2, a3, a4, a5) 0 := by
  refine br_f (by decide) (br_t (by decide) (br_t rfl ?_))
  unfold wX_connect_24
  rw [show (2 : Int32) - 1 = 1 by decide]
  exact br_t (by decide) ⟨vp_in_iff.mpr (by decide), nm_e (br_t rfl ⟨vp_in_iff.mpr (by decide), nm_e (h _)⟩)⟩
/-! the nearest worlds -/
def bb_Z (a3 : Nat → Int64) : Prop := a3 0 = 6148914691236517205 ∧ a3 1 = 3689348814741910323
theorem bb_sw_10_0 {post : Int64 → Prop} (hz : bb_Z a3) (h : post 5) : wpX_swapped post (2, d, 4, 15, a1, a2, a3, a4, a5) 10 0 := by
  unfold wpX_swapped
  refine nm_e ⟨vp_in_iff.mpr (by decide), vp_in_iff.mpr (by decide), ?_⟩
  rw [show (0 : Int32).toNatClampNeg = 0 by decide, hz.1]
  exact ek_v (by decide +kernel) h
theorem bb_sw_10_1 {post : Int64 → Prop} (hz : bb_Z a3) (h : post 10) : wpX_swapped post (2, d, 4, 15, a1, a2, a3, a4, a5) 10 1 := by
  unfold wpX_swapped
  refine nm_e ⟨vp_in_iff.mpr (by decide), vp_in_iff.mpr (by decide), ?_⟩
  rw [show (1 : Int32).toNatClampNeg = 1 by decide, hz.2]
  exact ek_v (by decide +kernel) h
theorem bb_sw_12_0 {post : Int64 → Prop} (hz : bb_Z a3) (h : post 12) : wpX_swapped post (2, d, 4, 15, a1, a2, a3, a4, a5) 12 0 := by
  unfold wpX_swapped
  refine nm_e ⟨vp_in_iff.mpr (by decide), vp_in_iff.mpr (by decide), ?_⟩
  rw [show (0 : Int32).toNatClampNeg = 0 by decide, hz.1]
  exact ek_v (by decide +kernel) h
theorem bb_sw_12_1 {post : Int64 → Prop} (hz : bb_Z a3) (h : post 3) : wpX_swapped post (2, d, 4, 15, a1, a2, a3, a4, a5) 12 1 := by
  unfold wpX_swapped
  refine nm_e ⟨vp_in_iff.mpr (by decide), vp_in_iff.mpr (by decide), ?_⟩
  rw [show (1 : Int32).toNatClampNeg = 1 by decide, hz.2]
  exact ek_v (by decide +kernel) h
theorem bb_gr_10 {post : Int64 → Prop} (hz : bb_Z a3) (h : post 15) : wpX_grownOnce post (2, d, 4, 15, a1, a2, a3, a4, a5) 10 := by
  unfold wpX_grownOnce
  refine ⟨3, br_f (by decide) (bb_sw_10_0 hz (nm_r (e' := 15) (by decide) (nm_r (e' := 1) (by decide) ?_)))⟩
  refine br_f (by decide) (bb_sw_10_1 hz (nm_r (e' := 15) (by decide) (nm_r (e' := 2) (by decide) ?_)))
  exact br_t (by decide) h
theorem bb_gr_12 {post : Int64 → Prop} (hz : bb_Z a3) (h : post 15) : wpX_grownOnce post (2, d, 4, 15, a1, a2, a3, a4, a5) 12 := by
  unfold wpX_grownOnce
  refine ⟨3, br_f (by decide) (bb_sw_12_0 hz (nm_r (e' := 12) (by decide) (nm_r (e' := 1) (by decide) ?_)))⟩
  refine br_f (by decide) (bb_sw_12_1 hz (nm_r (e' := 15) (by decide) (nm_r (e' := 2) (by decide) ?_)))
  exact br_t (by decide) h
/-- they meet at once -/
theorem bb_near_h {post : Int64 → Prop} {p q m : Int64} (hp : ¬ p = 0) (hq : ¬ q = 0) (hm : p &&& q = m) (h0 : ¬ m = 0) (h : post m) : wpX_nearest post (2, d, 4, 15, a1, a2, a3, a4, a5) p q := by
  subst hm
  unfold wpX_nearest
  exact br_f hp (br_f hq ⟨1, br_f (by decide) (br_f h0 h)⟩)
/-- they meet when the first has grown once, to all -/
theorem bb_near_m {post : Int64 → Prop} {p q : Int64} (hg : ∀ post' : Int64 → Prop, post' 15 → wpX_grownOnce post' (2, d, 4, 15, a1, a2, a3, a4, a5) p) (hp : ¬ p = 0) (hq : ¬ q = 0) (h0 : p &&& q = 0) (hm : 15 &&& q = q) (h : post q) :
    wpX_nearest post (2, d, 4, 15, a1, a2, a3, a4, a5) p q := by
  unfold wpX_nearest
  refine br_f hp (br_f hq ⟨2, br_f (by decide) (br_t h0 (hg _ (nm_r (e' := 1) (by decide) ?_)))⟩)
  exact br_f (by decide) (br_f (by rw [hm]; exact hq) (ek_v hm h))
theorem bb_rev_f {post : Int32 → St2 → Prop} (hb : ¬ bb_G b) (h : post (-1) (2, d, 4, 15, a1, a2, a3, a4, a5)) : wpX_revise post (2, d, 4, 15, a1, a2, a3, a4, a5) b := by
  unfold wpX_revise
  exact bb_bel_f hb (br_t rfl h)
theorem bb_rev_0 {post : Int32 → St2 → Prop} (hb : bb_G b) (h : post (-2) (2, 0, 4, 15, a1, a2, a3, a4, a5)) : wpX_revise post (2, 0, 4, 15, a1, a2, a3, a4, a5) b := by
  unfold wpX_revise
  exact bb_bel_t hb (br_f (by decide) (br_t rfl h))
theorem bb_rev_t {post : Int32 → St2 → Prop} {p q m : Int64} {r : Int32} (hb : bb_G b) (h1 : a1 b.toNatClampNeg = p) (h2 : a2 (0 : Int32).toNatClampNeg = q)
    (hn : ∀ post' : Int64 → Prop, post' m → wpX_nearest post' (2, 0, 4, 15, a1, a2, a3, a4, a5) p q) (ho : wpX_ones (fun z => z = r) () m)
    (h : post r (2, 0, 4, 15, vp_updL a1 b.toNatClampNeg m, a2, a3, a4, a5)) : wpX_revise post (2, 1, 4, 15, a1, a2, a3, a4, a5) b := by
  subst h1
  unfold wpX_revise
  exact bb_bel_t hb (br_f (by decide) (br_f (by decide) (bb_pop h2 ⟨bb_in hb, hn _ (bb_become hb ho h)⟩)))
/-! what is asked of a set: its count and its least world -/
def bb_row (m : Int64) (c r : Int32) : Prop := wpX_ones (fun z => z = c) () m ∧ ¬ m = 0 ∧ (m.toUInt64 >>> ((0 : Int32).toInt64.toUInt64 &&& Int64.toUInt64 63)).toInt64 = m ∧ wpX_ones (fun z => z = r) () ((m &&& (-m)) - 1)
theorem bb_cnt_f {post : Int32 → Prop} (hb : ¬ bb_G b) (h : post (-1)) : wpX_count post (2, d, 4, 15, a1, a2, a3, a4, a5) b := by
  unfold wpX_count
  exact bb_bel_f hb (br_t rfl h)
theorem bb_cnt_t {post : Int32 → Prop} {m : Int64} {c r : Int32} (hb : bb_G b) (h1 : a1 b.toNatClampNeg = m) (hr : bb_row m c r) (h : post c) : wpX_count post (2, d, 4, 15, a1, a2, a3, a4, a5) b := by
  subst h1
  unfold wpX_count
  exact bb_bel_t hb (br_f (by decide) ⟨bb_in hb, bb_ones hr.1 h⟩)
theorem bb_nx_f {post : Int32 → Prop} {x : Int32} (hb : ¬ bb_G b) (h : post (-1)) : wpX_next post (2, d, 4, 15, a1, a2, a3, a4, a5) b x := by
  unfold wpX_next
  exact bb_bel_f hb (br_t rfl h)
theorem bb_nx_t {post : Int32 → Prop} {m : Int64} {c r : Int32} (hb : bb_G b) (h1 : a1 b.toNatClampNeg = m) (hr : bb_row m c r) (h : post r) : wpX_next post (2, d, 4, 15, a1, a2, a3, a4, a5) b (-1) := by
  subst h1
  unfold wpX_next
  refine bb_bel_t hb (br_f (by decide) (br_t (by decide) (br_f (by decide) ⟨bb_in hb, nm_r hr.2.2.1 (br_f hr.2.1 (nm_e (bb_ones hr.2.2.2 ?_)))⟩)))
  exact ek_v (Int32.zero_add r) h
theorem bb_r15 : bb_row 15 4 0 := ⟨by rintro _ rfl _ rfl _ rfl; decide +kernel, by decide, by decide +kernel, by rintro _ rfl _ rfl _ rfl; decide +kernel⟩
theorem bb_r10 : bb_row 10 2 1 := ⟨by rintro _ rfl _ rfl _ rfl; decide +kernel, by decide, by decide +kernel, by rintro _ rfl _ rfl _ rfl; decide +kernel⟩
theorem bb_r12 : bb_row 12 2 2 := ⟨by rintro _ rfl _ rfl _ rfl; decide +kernel, by decide, by decide +kernel, by rintro _ rfl _ rfl _ rfl; decide +kernel⟩
theorem bb_r5 : bb_row 5 2 0 := ⟨by rintro _ rfl _ rfl _ rfl; decide +kernel, by decide, by decide +kernel, by rintro _ rfl _ rfl _ rfl; decide +kernel⟩
theorem bb_r3 : bb_row 3 2 0 := ⟨by rintro _ rfl _ rfl _ rfl; decide +kernel, by decide, by decide +kernel, by rintro _ rfl _ rfl _ rfl; decide +kernel⟩
theorem bb_r2 : bb_row 2 1 1 := ⟨by rintro _ rfl _ rfl _ rfl; decide +kernel, by decide, by decide +kernel, by rintro _ rfl _ rfl _ rfl; decide +kernel⟩
theorem bb_r4 : bb_row 4 1 2 := ⟨by rintro _ rfl _ rfl _ rfl; decide +kernel, by decide, by decide +kernel, by rintro _ rfl _ rfl _ rfl; decide +kernel⟩
/-- the base as it is made -/
theorem bb_init {post : St2 → Prop} (h : ∀ c1 c2 c3 c4 c5 : Nat → Int64, c1 0 = 15 → c1 1 = 15 → c1 2 = 15 → bb_Z c3 → post (2, 0, 4, 15, c1, c2, c3, c4, c5)) : wpX_init post 5 33 (0, 0, 0, 0) 2 := by
  unfold wpX_init
  refine ⟨by decide, by decide, by decide, by decide, by decide, by decide, by decide, by decide, by decide, by decide, br_t (by decide) (br_t (by decide) (nm_r (e' := 4) (by decide) (br_f (by decide) ?_)))⟩
  rw [show ((1 : Int64) <<< ((4 : Int32).toInt64 &&& 63)) - 1 = 15 by decide +kernel]
  refine nm_e (nm_e (nm_e (nm_e (nm_e (nm_e ⟨4, ?_⟩)))))
  refine br_f (by decide) ⟨vp_in_iff.mpr (by decide), nm_e (nm_r (e' := 1) (by decide) ?_)⟩
  refine br_f (by decide) ⟨vp_in_iff.mpr (by decide), nm_e (nm_r (e' := 2) (by decide) ?_)⟩
  refine br_f (by decide) ⟨vp_in_iff.mpr (by decide), nm_e (nm_r (e' := 3) (by decide) ?_)⟩
  exact br_t (by decide) (h _ _ _ _ _ rfl rfl rfl ⟨rfl, rfl⟩)
end
end
section
/-! the law behind the making: x4 says that v is a variable, x5 that w is one; a good belief b first, then a bad one -/
section
variable {post : Int32 → St0 → Prop} {mc ms kc ks : Nat} {d x0 x1 b x4 x5 x8 : Int32} {a1 a2 a3 a4 a5 : Nat → Int64}
theorem bb_323 {m : Int64} {c r : Int32} (hp : post 1 ()) (hb : bb_G b) (h1 : a1 b.toNatClampNeg = m) (hr : bb_row m c r) : wL_lawOf_323 post mc ms b 1 r kc ks 2 d 4 15 a1 a2 a3 a4 a5 := by
  unfold wL_lawOf_323
  exact bb_nx_t hb h1 hr (br_f (by decide) (br_t rfl hp))
/-- r is the least world that the law expects -/
def bb_H (x0 x4 x5 x8 r : Int32) : Prop := (x8 = 0 ∧ (x4 = 0 ∨ ¬ x5 = 0) ∧ r = 0) ∨ ((¬ x8 = 0 ∨ (¬ x4 = 0 ∧ x5 = 0)) ∧ r = (1 : Int32) <<< ((x0 &&& 1) &&& 31))
theorem bb_278 {m : Int64} {c r : Int32} (hp : post 1 ()) (hb : bb_G b) (h1 : a1 b.toNatClampNeg = m) (hr : bb_row m c r) (H : bb_H x0 x4 x5 x8 r) : wL_lawOf_278 post mc ms x0 b x4 x5 1 d x8 c kc ks 2 d 4 15 a1 a2 a3 a4 a5 := by
  have A : r = 0 → wL_lawOf_322 post mc ms b 1 kc ks 2 d 4 15 a1 a2 a3 a4 a5 := by
    intro e
    rw [e] at hr
    unfold wL_lawOf_322
    exact bb_323 hp hb h1 hr
  have B : r = (1 : Int32) <<< ((x0 &&& 1) &&& 31) → wL_lawOf_314 post mc ms x0 b 1 kc ks 2 d 4 15 a1 a2 a3 a4 a5 := by
    intro e
    rw [e] at hr
    unfold wL_lawOf_314
    exact bb_323 hp hb h1 hr
  unfold wL_lawOf_278
  refine bb_cnt_t hb h1 hr (br_t rfl ?_)
  unfold wpX_depth
  refine br_t rfl ?_
  rcases H with ⟨e8, e45, er⟩ | ⟨e, er⟩
  · exact br_t e8 (br_c (fun _ => A er) (fun z => br_f (e45.resolve_left z) (A er)))
  · refine br_c (fun z => ?_) (fun _ => B er)
    have k := e.resolve_left (fun t => t z)
    exact br_f k.1 (br_t k.2 (B er))
theorem bb_237_n {m : Int64} {c r : Int32} (hp : post 1 ()) (hb : bb_G b) (h1 : a1 b.toNatClampNeg = m) (hr : bb_row m c r) (H : bb_H x0 x4 0 x8 r) : wL_lawOf_237 post mc ms x0 b x4 0 1 0 x8 c kc ks 2 0 4 15 a1 a2 a3 a4 a5 := by
  unfold wL_lawOf_237
  exact bb_rev_0 hb (br_f (by decide) (br_t rfl (br_t rfl (br_f (by decide) (bb_278 hp hb h1 hr H)))))
theorem bb_237_y {p q m : Int64} {c r : Int32} (hp : post 1 ()) (hb : bb_G b) (h1 : a1 b.toNatClampNeg = p) (h2 : a2 (0 : Int32).toNatClampNeg = q)
    (hn : ∀ post' : Int64 → Prop, post' m → wpX_nearest post' (2, 0, 4, 15, a1, a2, a3, a4, a5) p q) (hr : bb_row m c r) (H : bb_H x0 x4 1 x8 r) : wL_lawOf_237 post mc ms x0 b x4 1 1 1 x8 c kc ks 2 1 4 15 a1 a2 a3 a4 a5 := by
  unfold wL_lawOf_237
  exact bb_rev_t hb h1 h2 hn hr.1 (br_f (by decide) (br_f (by decide) (br_t rfl (br_f (by decide) (bb_278 hp hb pk_uLs hr H)))))
theorem bb_127_n {p : Int64} {c r : Int32} (g0 : ¬ x1 = 0) (g1 : ¬ x1 = 1) (hp : post 1 ()) (hb : bb_G b) (h1 : a1 b.toNatClampNeg = p) (hr : bb_row p c r) (hc : x4 = 0 ∧ c = 4 ∨ x4 = 1 ∧ c = 2) (H : bb_H x0 x4 0 0 r) :
    wL_lawOf_127 post mc ms x0 x1 b x4 0 1 0 kc ks 2 0 4 15 a1 a2 a3 a4 a5 := by
  have A : wL_lawOf_197 post mc ms x0 b x4 0 1 0 kc ks 2 0 4 15 a1 a2 a3 a4 a5 := by
    unfold wL_lawOf_197
    rcases hc with ⟨rfl, rfl⟩ | ⟨rfl, rfl⟩
    · exact br_f (by decide) (br_t rfl (br_t rfl (bb_237_n hp hb h1 hr H)))
    · exact br_f (by decide) (br_t rfl (br_f (by decide) (bb_237_n hp hb h1 hr H)))
  refine br_t rfl ?_
  unfold wL_lawOf_135
  refine bb_atom_f g0 g1 (br_t rfl ?_)
  refine br_t rfl (bb_conn_0 (br_t rfl ?_))
  exact br_t rfl (br_c (fun _ => A) (fun _ => br_t rfl A))
theorem bb_127_y {p k q m : Int64} {c r : Int32} (hw : x1 = 0 ∨ x1 = 1) (hp : post 1 ()) (hb : bb_G b) (h1 : a1 b.toNatClampNeg = p)
    (hk : 15 &&& ((a3 x1.toNatClampNeg) ^^^ (-1)) = k) (hq : 15 &&& (k ^^^ (-1)) = q)
    (hn : ∀ (s : Nat → Int64) (post' : Int64 → Prop), post' m → wpX_nearest post' (2, 0, 4, 15, a1, s, a3, a4, a5) p q) (hr : bb_row m c r)
    (hc : x8 = 0 ∧ c = 2 ∧ (x4 = 0 ∨ x0 = x1) ∨ x8 = 1 ∧ c = 1 ∧ ¬ x4 = 0 ∧ ¬ x0 = x1) (H : bb_H x0 x4 1 x8 r) :
    wL_lawOf_127 post mc ms x0 x1 b x4 1 1 0 kc ks 2 0 4 15 a1 a2 a3 a4 a5 := by
  refine br_f (by decide) (nm_r (e' := 1) (by decide) ?_)
  unfold wL_lawOf_135
  refine bb_atom_t (e := 1) hw (Or.inl rfl) (by decide) hk (br_f (by decide) ?_)
  refine br_t rfl (bb_conn_1 pk_uLs hq (br_f (by decide) ?_))
  refine br_t rfl ?_
  rcases hc with ⟨rfl, rfl, e⟩ | ⟨rfl, rfl, e4, e01⟩
  · have A : wL_lawOf_197 post mc ms x0 b x4 1 1 1 kc ks 2 1 4 15 a1 (vp_updL (vp_updL a2 (0 : Int32).toNatClampNeg k) (0 : Int32).toNatClampNeg q) a3 a4 a5 := by
      unfold wL_lawOf_197
      exact br_f (by decide) (br_f (by decide) (br_t rfl (bb_237_y hp hb h1 pk_uLs (hn _) hr H)))
    exact br_c (fun _ => A) (fun z => br_f (by decide) (br_t (e.resolve_left z) A))
  · exact br_f e4 (br_f (by decide) (br_f e01 (br_f (by decide) (br_f (by decide) (br_f (by decide) (bb_237_y hp hb h1 pk_uLs (hn _) hr H))))))
theorem bb_k0 (hz : bb_Z a3) : 15 &&& ((a3 (0 : Int32).toNatClampNeg) ^^^ (-1)) = 10 := by
  rw [show (0 : Int32).toNatClampNeg = 0 by decide, hz.1]
  decide +kernel
theorem bb_k1 (hz : bb_Z a3) : 15 &&& ((a3 (1 : Int32).toNatClampNeg) ^^^ (-1)) = 12 := by
  rw [show (1 : Int32).toNatClampNeg = 1 by decide, hz.2]
  decide +kernel
theorem bb_127 {p : Int64} (hp : post 1 ()) (hb : bb_G b) (hz : bb_Z a3) (h1 : a1 b.toNatClampNeg = p) (hk : x4 = 0 ∧ p = 15 ∨ x4 = 1 ∧ x0 = 0 ∧ p = 10 ∨ x4 = 1 ∧ x0 = 1 ∧ p = 12)
    (hx : (¬ x1 = 0 ∧ ¬ x1 = 1 ∧ x5 = 0) ∨ (x1 = 0 ∧ x5 = 1) ∨ (x1 = 1 ∧ x5 = 1)) : wL_lawOf_127 post mc ms x0 x1 b x4 x5 1 0 kc ks 2 0 4 15 a1 a2 a3 a4 a5 := by
  rcases hx with ⟨g0, g1, rfl⟩ | ⟨rfl, rfl⟩ | ⟨rfl, rfl⟩
  · rcases hk with ⟨rfl, rfl⟩ | ⟨rfl, rfl, rfl⟩ | ⟨rfl, rfl, rfl⟩
    · exact bb_127_n g0 g1 hp hb h1 bb_r15 (Or.inl ⟨rfl, rfl⟩) (Or.inl ⟨rfl, Or.inl rfl, rfl⟩)
    · exact bb_127_n g0 g1 hp hb h1 bb_r10 (Or.inr ⟨rfl, rfl⟩) (Or.inr ⟨Or.inr ⟨by decide, rfl⟩, by decide⟩)
    · exact bb_127_n g0 g1 hp hb h1 bb_r12 (Or.inr ⟨rfl, rfl⟩) (Or.inr ⟨Or.inr ⟨by decide, rfl⟩, by decide⟩)
  · rcases hk with ⟨rfl, rfl⟩ | ⟨rfl, rfl, rfl⟩ | ⟨rfl, rfl, rfl⟩
    · exact bb_127_y (x8 := 0) (q := 5) (m := 5) (Or.inl rfl) hp hb h1 (bb_k0 hz) (by decide) (fun s _ h => bb_near_h (by decide) (by decide) (by decide) (by decide) h) bb_r5 (Or.inl ⟨rfl, rfl, Or.inl rfl⟩) (Or.inl ⟨rfl, Or.inl rfl, rfl⟩)
    · exact bb_127_y (x8 := 0) (q := 5) (m := 5) (Or.inl rfl) hp hb h1 (bb_k0 hz) (by decide) (fun s _ h => bb_near_m (fun _ g => bb_gr_10 hz g) (by decide) (by decide) (by decide) (by decide) h) bb_r5 (Or.inl ⟨rfl, rfl, Or.inr rfl⟩) (Or.inl ⟨rfl, Or.inr (by decide), rfl⟩)
    · exact bb_127_y (x8 := 1) (q := 5) (m := 4) (Or.inl rfl) hp hb h1 (bb_k0 hz) (by decide) (fun s _ h => bb_near_h (by decide) (by decide) (by decide) (by decide) h) bb_r4 (Or.inr ⟨rfl, rfl, by decide, by decide⟩) (Or.inr ⟨Or.inl (by decide), by decide⟩)
  · rcases hk with ⟨rfl, rfl⟩ | ⟨rfl, rfl, rfl⟩ | ⟨rfl, rfl, rfl⟩
    · exact bb_127_y (x8 := 0) (q := 3) (m := 3) (Or.inr rfl) hp hb h1 (bb_k1 hz) (by decide) (fun s _ h => bb_near_h (by decide) (by decide) (by decide) (by decide) h) bb_r3 (Or.inl ⟨rfl, rfl, Or.inl rfl⟩) (Or.inl ⟨rfl, Or.inl rfl, rfl⟩)
    · exact bb_127_y (x8 := 1) (q := 3) (m := 2) (Or.inr rfl) hp hb h1 (bb_k1 hz) (by decide) (fun s _ h => bb_near_h (by decide) (by decide) (by decide) (by decide) h) bb_r2 (Or.inr ⟨rfl, rfl, by decide, by decide⟩) (Or.inr ⟨Or.inl (by decide), by decide⟩)
    · exact bb_127_y (x8 := 0) (q := 3) (m := 3) (Or.inr rfl) hp hb h1 (bb_k1 hz) (by decide) (fun s _ h => bb_near_m (fun _ g => bb_gr_12 hz g) (by decide) (by decide) (by decide) (by decide) h) bb_r3 (Or.inl ⟨rfl, rfl, Or.inr rfl⟩) (Or.inl ⟨rfl, Or.inr (by decide), rfl⟩)
/-- a good belief -/
theorem bb_55_t (hp : post 1 ()) (hb : bb_G b) (hz : bb_Z a3) (h1 : a1 b.toNatClampNeg = 15) (hv : (¬ x0 = 0 ∧ ¬ x0 = 1 ∧ x4 = 0) ∨ (x0 = 0 ∧ x4 = 1) ∨ (x0 = 1 ∧ x4 = 1))
    (hx : (¬ x1 = 0 ∧ ¬ x1 = 1 ∧ x5 = 0) ∨ (x1 = 0 ∧ x5 = 1) ∨ (x1 = 1 ∧ x5 = 1)) : wL_lawOf_55 post mc ms x0 x1 b x4 x5 1 kc ks 2 0 4 15 a1 a2 a3 a4 a5 := by
  rcases hv with ⟨g0, g1, rfl⟩ | ⟨rfl, rfl⟩ | ⟨rfl, rfl⟩
  · refine br_t rfl ?_
    unfold wL_lawOf_67
    refine bb_atom_f g0 g1 (br_t rfl ?_)
    refine br_t rfl (bb_exp_0 hb (br_f (by decide) (br_t rfl ?_)))
    exact br_t rfl (br_f (by decide) (bb_127 hp hb hz h1 (Or.inl ⟨rfl, rfl⟩) hx))
  · refine br_f (by decide) ?_
    unfold wL_lawOf_67
    refine bb_atom_t (e := 1) (Or.inl rfl) (Or.inl rfl) (by decide) (bb_k0 hz) (br_f (by decide) ?_)
    refine br_t rfl (bb_exp_t (m := 10) hb pk_uLs (by rw [h1]; decide) bb_r10.1 (br_f (by decide) (br_f (by decide) ?_)))
    exact br_t rfl (br_f (by decide) (bb_127 hp hb hz pk_uLs (Or.inr (Or.inl ⟨rfl, rfl, rfl⟩)) hx))
  · refine br_f (by decide) ?_
    unfold wL_lawOf_67
    refine bb_atom_t (e := 1) (Or.inr rfl) (Or.inl rfl) (by decide) (bb_k1 hz) (br_f (by decide) ?_)
    refine br_t rfl (bb_exp_t (m := 12) hb pk_uLs (by rw [h1]; decide) bb_r12.1 (br_f (by decide) (br_f (by decide) ?_)))
    exact br_t rfl (br_f (by decide) (bb_127 hp hb hz pk_uLs (Or.inr (Or.inr ⟨rfl, rfl, rfl⟩)) hx))
/-! a bad belief -/
theorem bb_323_f {z : Int32} (hp : post 1 ()) (hb : ¬ bb_G b) : wL_lawOf_323 post mc ms b 0 z kc ks 2 d 4 15 a1 a2 a3 a4 a5 := by
  unfold wL_lawOf_323
  exact bb_nx_f hb (br_t rfl (br_t rfl hp))
theorem bb_278_f (hp : post 1 ()) (hb : ¬ bb_G b) : wL_lawOf_278 post mc ms x0 b x4 x5 0 d x8 (-1) kc ks 2 d 4 15 a1 a2 a3 a4 a5 := by
  have A : wL_lawOf_322 post mc ms b 0 kc ks 2 d 4 15 a1 a2 a3 a4 a5 := by
    unfold wL_lawOf_322
    exact bb_323_f hp hb
  have B : wL_lawOf_314 post mc ms x0 b 0 kc ks 2 d 4 15 a1 a2 a3 a4 a5 := by
    unfold wL_lawOf_314
    exact bb_323_f hp hb
  unfold wL_lawOf_278
  refine bb_cnt_f hb (br_t rfl ?_)
  unfold wpX_depth
  exact br_t rfl (br_c (fun _ => br_c (fun _ => A) (fun _ => br_c (fun _ => B) (fun _ => A))) (fun _ => B))
theorem bb_198_f {z : Int32} (hp : post 1 ()) (hb : ¬ bb_G b) : wL_lawOf_198 post mc ms x0 b x4 x5 0 d z kc ks 2 d 4 15 a1 a2 a3 a4 a5 := by
  refine br_t rfl ?_
  unfold wL_lawOf_237
  exact bb_rev_f hb (br_t rfl (br_t rfl (br_t rfl (bb_278_f hp hb))))
theorem bb_173_f {z : Int32} (hp : post 1 ()) (hb : ¬ bb_G b) : wL_lawOf_173 post mc ms x0 x1 b x4 x5 0 d z z kc ks 2 d 4 15 a1 a2 a3 a4 a5 := by
  have A : wL_lawOf_197 post mc ms x0 b x4 x5 0 d kc ks 2 d 4 15 a1 a2 a3 a4 a5 := by
    unfold wL_lawOf_197
    exact bb_198_f hp hb
  exact br_t rfl (br_c (fun _ => A) (fun _ => br_c (fun _ => A) (fun _ => br_c (fun _ => A) (fun _ => bb_198_f hp hb))))
theorem bb_151_f {z : Int32} (hp : post 1 ()) (hb : ¬ bb_G b) (hd : d = 0 ∨ d = 1 ∨ d = 2) : wL_lawOf_151 post mc ms x0 x1 b x4 x5 0 d z z kc ks 2 d 4 15 a1 a2 a3 a4 a5 := by
  refine br_t rfl ?_
  rcases hd with rfl | rfl | rfl
  · exact bb_conn_0 (br_t rfl (bb_173_f hp hb))
  · exact bb_conn_1 rfl rfl (br_f (by decide) (bb_173_f hp hb))
  · exact bb_conn_2 (fun s => br_f (by decide) (bb_173_f hp hb))
theorem bb_127_f (hp : post 1 ()) (hb : ¬ bb_G b) (hd : d = 0 ∨ d = 1) (hx : (¬ x1 = 0 ∧ ¬ x1 = 1 ∧ x5 = 0) ∨ (x1 = 0 ∧ x5 = 1) ∨ (x1 = 1 ∧ x5 = 1)) :
    wL_lawOf_127 post mc ms x0 x1 b x4 x5 0 d kc ks 2 d 4 15 a1 a2 a3 a4 a5 := by
  have hd1 : d + 1 = 0 ∨ d + 1 = 1 ∨ d + 1 = 2 := by rcases hd with rfl | rfl <;> decide
  have hd0 : d = 0 ∨ d = 1 ∨ d = 2 := hd.elim Or.inl (fun z => Or.inr (Or.inl z))
  have go : (x1 = 0 ∨ x1 = 1) → wL_lawOf_127 post mc ms x0 x1 b x4 1 0 d kc ks 2 d 4 15 a1 a2 a3 a4 a5 := by
    intro hw
    refine br_f (by decide) (nm_e ?_)
    unfold wL_lawOf_135
    exact bb_atom_t hw hd rfl rfl (br_f (by decide) (bb_151_f hp hb hd1))
  rcases hx with ⟨g0, g1, rfl⟩ | ⟨e, rfl⟩ | ⟨e, rfl⟩
  · refine br_t rfl ?_
    unfold wL_lawOf_135
    exact bb_atom_f g0 g1 (br_t rfl (bb_151_f hp hb hd0))
  · exact go (Or.inl e)
  · exact go (Or.inr e)
theorem bb_84_f {z : Int32} (hp : post 1 ()) (hb : ¬ bb_G b) (hd : d = 0 ∨ d = 1) (hx : (¬ x1 = 0 ∧ ¬ x1 = 1 ∧ x5 = 0) ∨ (x1 = 0 ∧ x5 = 1) ∨ (x1 = 1 ∧ x5 = 1)) :
    wL_lawOf_84 post mc ms x0 x1 b x4 x5 0 d z z kc ks 2 d 4 15 a1 a2 a3 a4 a5 :=
  br_t rfl (bb_exp_f hb (br_t rfl (br_t rfl (br_t rfl (bb_127_f hp hb hd hx)))))
theorem bb_55_f (hp : post 1 ()) (hb : ¬ bb_G b) (hv : (¬ x0 = 0 ∧ ¬ x0 = 1 ∧ x4 = 0) ∨ (x0 = 0 ∧ x4 = 1) ∨ (x0 = 1 ∧ x4 = 1))
    (hx : (¬ x1 = 0 ∧ ¬ x1 = 1 ∧ x5 = 0) ∨ (x1 = 0 ∧ x5 = 1) ∨ (x1 = 1 ∧ x5 = 1)) : wL_lawOf_55 post mc ms x0 x1 b x4 x5 0 kc ks 2 0 4 15 a1 a2 a3 a4 a5 := by
  have go : (x0 = 0 ∨ x0 = 1) → wL_lawOf_55 post mc ms x0 x1 b 1 x5 0 kc ks 2 0 4 15 a1 a2 a3 a4 a5 := by
    intro hw
    refine br_f (by decide) ?_
    unfold wL_lawOf_67
    exact bb_atom_t hw (Or.inl rfl) (e := 1) (by decide) rfl (br_f (by decide) (bb_84_f hp hb (Or.inr rfl) hx))
  rcases hv with ⟨g0, g1, rfl⟩ | ⟨e, rfl⟩ | ⟨e, rfl⟩
  · refine br_t rfl ?_
    unfold wL_lawOf_67
    exact bb_atom_f g0 g1 (br_t rfl (bb_84_f hp hb (Or.inl rfl) hx))
  · exact go (Or.inl e)
  · exact go (Or.inr e)
/-! both -/
theorem bb_39 (hp : post 1 ()) (hz : bb_Z a3) (h0 : a1 0 = 15) (h1 : a1 1 = 15) (h2 : a1 2 = 15) (hv : (¬ x0 = 0 ∧ ¬ x0 = 1 ∧ x4 = 0) ∨ (x0 = 0 ∧ x4 = 1) ∨ (x0 = 1 ∧ x4 = 1))
    (hx : (¬ x1 = 0 ∧ ¬ x1 = 1 ∧ x5 = 0) ∨ (x1 = 0 ∧ x5 = 1) ∨ (x1 = 1 ∧ x5 = 1)) : wL_lawOf_39 post mc ms x0 x1 b x4 x5 kc ks 2 0 4 15 a1 a2 a3 a4 a5 := by
  have A : ¬ bb_G b → wL_lawOf_54 post mc ms x0 x1 b x4 x5 kc ks 2 0 4 15 a1 a2 a3 a4 a5 := by
    intro hb
    unfold wL_lawOf_54
    exact bb_55_f hp hb hv hx
  refine br_c (fun z => A (fun g => g.1 z)) (fun z => br_c (fun y => A (fun g => g.2 y)) (fun y => ?_))
  have hb : bb_G b := ⟨z, y⟩
  obtain ⟨j, hj, e⟩ := bb_G_nI hb
  have h15 : a1 b.toNatClampNeg = 15 := by
    rw [e, nI_clamp (by omega)]
    have hj3 : j = 0 ∨ j = 1 ∨ j = 2 := by omega
    rcases hj3 with rfl | rfl | rfl
    · exact h0
    · exact h1
    · exact h2
  exact bb_55_t hp hb hz h15 hv hx
theorem bb_23 (hp : post 1 ()) (hz : bb_Z a3) (h0 : a1 0 = 15) (h1 : a1 1 = 15) (h2 : a1 2 = 15) (hv : (¬ x0 = 0 ∧ ¬ x0 = 1 ∧ x4 = 0) ∨ (x0 = 0 ∧ x4 = 1) ∨ (x0 = 1 ∧ x4 = 1)) :
    wL_lawOf_23 post mc ms x0 x1 b x4 kc ks 2 0 4 15 a1 a2 a3 a4 a5 := by
  have A : (¬ x1 = 0 ∧ ¬ x1 = 1 ∧ (1 : Int32) = 0) ∨ (x1 = 0 ∧ (1 : Int32) = 1) ∨ (x1 = 1 ∧ (1 : Int32) = 1) → wL_lawOf_34 post mc ms x0 x1 b x4 kc ks 2 0 4 15 a1 a2 a3 a4 a5 := by
    intro hx
    unfold wL_lawOf_34
    exact bb_39 hp hz h0 h1 h2 hv hx
  exact br_c (fun z => A (Or.inr (Or.inl ⟨z, rfl⟩))) (fun z => br_c (fun y => A (Or.inr (Or.inr ⟨y, rfl⟩))) (fun y => bb_39 hp hz h0 h1 h2 hv (Or.inl ⟨z, y, rfl⟩)))
theorem bb_lawOf {v w : Int32} (hp : post 1 ()) : wpL_lawOf post 6 42 () v w b := by
  refine ⟨by decide, by decide, 5, 33, by decide, by decide, bb_init (fun c1 c2 c3 c4 c5 h0 h1 h2 hz => ?_)⟩
  have A : (¬ v = 0 ∧ ¬ v = 1 ∧ (1 : Int32) = 0) ∨ (v = 0 ∧ (1 : Int32) = 1) ∨ (v = 1 ∧ (1 : Int32) = 1) → wL_lawOf_18 post 6 42 v w b (1 + 5) (9 + 33) 2 0 4 15 c1 c2 c3 c4 c5 := by
    intro hv
    unfold wL_lawOf_18
    exact bb_23 hp hz h0 h1 h2 hv
  exact br_c (fun z => A (Or.inr (Or.inl ⟨z, rfl⟩))) (fun z => br_c (fun y => A (Or.inr (Or.inr ⟨y, rfl⟩))) (fun y => bb_23 hp hz h0 h1 h2 (Or.inl ⟨z, y, rfl⟩)))
end
end
section
theorem bb_cell {post : Int32 → Prop} {L : Nat} {xs : Nat → Int32} {x : Int32} (i : Nat) (hx : x = nI i) (hi : i < 3) (hL : L ≤ 3) (h : ∀ y, post y) : wpL_cellAt post L xs () x := by
  subst hx
  exact pk_le L i (fun _ => h _) (fun z => ⟨vp_in_nI z (by omega), h _⟩)
theorem i_vc (xs : Nat → Int32) (L : Nat) (hL : L ≤ 3) : wpL_law (fun r => r = 1) L xs := by
  unfold wpL_law
  exact bb_cell 0 rfl (by decide) hL (fun v => bb_cell 1 rfl (by decide) hL (fun w => bb_cell 2 rfl (by decide) hL (fun b => ⟨6, 42, by decide, by decide, bb_lawOf rfl⟩)))
end
