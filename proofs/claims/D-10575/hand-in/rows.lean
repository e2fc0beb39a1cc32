section
/-! the four states that a script can lead to: none, one element, two apart, two in a chain -/
def cc_z : Nat → Int32 := fun _ => 0
def cc_b1 : Nat → Int32 := upd cc_z 0 0
def cc_b2 : Nat → Int32 := upd cc_z 0 0
def cc_b3 : Nat → Int32 := upd (upd cc_z 0 (-1)) 0 (-1)
def cc_b4 : Nat → Int32 := upd (upd cc_z 0 (-1)) 0 (-1)
def cc_b5 : Nat → Int32 := upd cc_z 0 (-1)
def cc_b6 : Nat → Int32 := upd cc_z 0 (-1)
def cc_b7 : Nat → Int32 := upd cc_z 0 0
def cc_b8 : Nat → Int32 := cc_z
def cc_b9 : Nat → Int32 := cc_z
def cc_c1 : Nat → Int32 := upd cc_b1 1 0
def cc_c2 : Nat → Int32 := upd cc_b2 1 0
def cc_c3 : Nat → Int32 := upd (upd (upd cc_b3 1 (-1)) 0 (-1)) 1 (-1)
def cc_c4 : Nat → Int32 := upd (upd (upd cc_b4 1 (-1)) 0 (-1)) 1 (-1)
def cc_c5 : Nat → Int32 := upd (upd cc_b5 0 (-1)) 1 (-1)
def cc_c6 : Nat → Int32 := upd (upd cc_b6 0 (-1)) 1 (-1)
def cc_c7 : Nat → Int32 := upd (upd cc_b7 0 0) 0 1
def cc_c8 : Nat → Int32 := cc_b8
def cc_c9 : Nat → Int32 := cc_b9
def cc_d1 : Nat → Int32 := upd cc_b1 1 1
def cc_d2 : Nat → Int32 := upd (upd cc_b2 1 0) 0 2
def cc_d3 : Nat → Int32 := upd (upd (upd cc_b3 1 (-1)) 0 1) 1 (-1)
def cc_d4 : Nat → Int32 := upd (upd (upd cc_b4 1 (-1)) 0 (-1)) 1 0
def cc_d5 : Nat → Int32 := upd (upd (upd cc_b5 0 (-1)) 1 (-1)) 0 1
def cc_d6 : Nat → Int32 := upd (upd (upd cc_b6 0 (-1)) 1 (-1)) 1 0
def cc_d7 : Nat → Int32 := upd cc_b7 0 0
def cc_d8 : Nat → Int32 := upd cc_b8 1 0
def cc_d9 : Nat → Int32 := cc_b9
theorem cc_add_00 {post : Int32 → St2 → Prop} (h : post 1 (1, 1, cc_b1, cc_b2, cc_b3, cc_b4, cc_b5, cc_b6, cc_b7, cc_b8, cc_b9)) : wpX_add post (0, 1, cc_z, cc_z, cc_z, cc_z, cc_z, cc_z, cc_z, cc_z, cc_z) 0 := by
  repeat (first
    | refine ⟨vp_in_iff.mpr (by decide +kernel), ?_⟩
    | refine br_t (by decide +kernel) ?_
    | refine br_f (by decide +kernel) ?_
    | (intro x hx; subst hx)
    | refine ⟨12, ?_⟩
    | exact h)
theorem cc_add_10 {post : Int32 → St2 → Prop} (h : post 2 (2, 1, cc_c1, cc_c2, cc_c3, cc_c4, cc_c5, cc_c6, cc_c7, cc_c8, cc_c9)) : wpX_add post (1, 1, cc_b1, cc_b2, cc_b3, cc_b4, cc_b5, cc_b6, cc_b7, cc_b8, cc_b9) 0 := by
  repeat (first
    | refine ⟨vp_in_iff.mpr (by decide +kernel), ?_⟩
    | refine br_t (by decide +kernel) ?_
    | refine br_f (by decide +kernel) ?_
    | (intro x hx; subst hx)
    | refine ⟨12, ?_⟩
    | exact h)
theorem cc_add_11 {post : Int32 → St2 → Prop} (h : post 2 (2, 1, cc_d1, cc_d2, cc_d3, cc_d4, cc_d5, cc_d6, cc_d7, cc_d8, cc_d9)) : wpX_add post (1, 1, cc_b1, cc_b2, cc_b3, cc_b4, cc_b5, cc_b6, cc_b7, cc_b8, cc_b9) 1 := by
  repeat (first
    | refine ⟨vp_in_iff.mpr (by decide +kernel), ?_⟩
    | refine br_t (by decide +kernel) ?_
    | refine br_f (by decide +kernel) ?_
    | (intro x hx; subst hx)
    | refine ⟨12, ?_⟩
    | exact h)
/-! a set that is none -/
theorem cc_isSet_bad {post : Int32 → Prop} {n am x : Int32} {a1 a2 a3 a4 a5 a6 a7 a8 a9 : Nat → Int32} (hx : x < 0 ∨ (1 : Int32) <<< (n &&& 31) ≤ x) (h : post 0) : wpX_isSet post (n, am, a1, a2, a3, a4, a5, a6, a7, a8, a9) x :=
  br_c (fun _ => h) (fun h0 => br_t (hx.resolve_left h0) h)
theorem cc_add_bad {post : Int32 → St2 → Prop} {n am x : Int32} {a1 a2 a3 a4 a5 a6 a7 a8 a9 : Nat → Int32} (hn : n < 10) (hx : x < 0 ∨ (1 : Int32) <<< (n &&& 31) ≤ x) (h : post (-1) (n, am, a1, a2, a3, a4, a5, a6, a7, a8, a9)) : wpX_add post (n, am, a1, a2, a3, a4, a5, a6, a7, a8, a9) x :=
  br_t hn (cc_isSet_bad hx (br_t rfl h))
theorem cc_width_bad {post : Int32 → St2 → Prop} {n am x : Int32} {a1 a2 a3 a4 a5 a6 a7 a8 a9 : Nat → Int32} (hx : x < 0 ∨ (1 : Int32) <<< (n &&& 31) ≤ x) (h : post (-1) (n, am, a1, a2, a3, a4, a5, a6, a7, a8, a9)) : wpX_width post (n, am, a1, a2, a3, a4, a5, a6, a7, a8, a9) x := by
  unfold wpX_width
  exact cc_isSet_bad hx (br_t rfl h)
theorem cc_longest_bad {post : Int32 → St2 → Prop} {n am x : Int32} {a1 a2 a3 a4 a5 a6 a7 a8 a9 : Nat → Int32} (hx : x < 0 ∨ (1 : Int32) <<< (n &&& 31) ≤ x) (h : post (-1) (n, am, a1, a2, a3, a4, a5, a6, a7, a8, a9)) : wpX_longestChain post (n, am, a1, a2, a3, a4, a5, a6, a7, a8, a9) x := by
  unfold wpX_longestChain
  exact cc_isSet_bad hx (br_t rfl h)
end
section
theorem cc_t_0_0 {mc ms kc ks : Nat} {z : Int32} : wL_lawOf_198 (fun r _ => r = 1) mc ms 0 0 0 1 z z kc ks 0 1 cc_z cc_z cc_z cc_z cc_z cc_z cc_z cc_z cc_z := by
  refine br_t rfl ?_
  repeat (first
    | refine ⟨vp_in_iff.mpr (by decide +kernel), ?_⟩
    | refine br_t (by decide +kernel) ?_
    | refine br_f (by decide +kernel) ?_
    | (intro x hx; subst hx)
    | refine ⟨12, ?_⟩
    | exact rfl)
theorem cc_t_1_0 {mc ms kc ks : Nat} {z : Int32} : wL_lawOf_198 (fun r _ => r = 1) mc ms 0 1 0 1 z z kc ks 1 1 cc_b1 cc_b2 cc_b3 cc_b4 cc_b5 cc_b6 cc_b7 cc_b8 cc_b9 := by
  refine br_t rfl ?_
  repeat (first
    | refine ⟨vp_in_iff.mpr (by decide +kernel), ?_⟩
    | refine br_t (by decide +kernel) ?_
    | refine br_f (by decide +kernel) ?_
    | (intro x hx; subst hx)
    | refine ⟨12, ?_⟩
    | exact rfl)
theorem cc_t_1_1 {mc ms kc ks : Nat} {z : Int32} : wL_lawOf_198 (fun r _ => r = 1) mc ms 1 1 0 1 z z kc ks 1 1 cc_b1 cc_b2 cc_b3 cc_b4 cc_b5 cc_b6 cc_b7 cc_b8 cc_b9 := by
  refine br_t rfl ?_
  repeat (first
    | refine ⟨vp_in_iff.mpr (by decide +kernel), ?_⟩
    | refine br_t (by decide +kernel) ?_
    | refine br_f (by decide +kernel) ?_
    | (intro x hx; subst hx)
    | refine ⟨12, ?_⟩
    | exact rfl)
theorem cc_t_a_0 {mc ms kc ks : Nat} {z : Int32} : wL_lawOf_198 (fun r _ => r = 1) mc ms 0 2 0 1 z z kc ks 2 1 cc_c1 cc_c2 cc_c3 cc_c4 cc_c5 cc_c6 cc_c7 cc_c8 cc_c9 := by
  refine br_t rfl ?_
  repeat (first
    | refine ⟨vp_in_iff.mpr (by decide +kernel), ?_⟩
    | refine br_t (by decide +kernel) ?_
    | refine br_f (by decide +kernel) ?_
    | (intro x hx; subst hx)
    | refine ⟨12, ?_⟩
    | exact rfl)
theorem cc_t_a_1 {mc ms kc ks : Nat} {z : Int32} : wL_lawOf_198 (fun r _ => r = 1) mc ms 1 2 0 1 z z kc ks 2 1 cc_c1 cc_c2 cc_c3 cc_c4 cc_c5 cc_c6 cc_c7 cc_c8 cc_c9 := by
  refine br_t rfl ?_
  repeat (first
    | refine ⟨vp_in_iff.mpr (by decide +kernel), ?_⟩
    | refine br_t (by decide +kernel) ?_
    | refine br_f (by decide +kernel) ?_
    | (intro x hx; subst hx)
    | refine ⟨12, ?_⟩
    | exact rfl)
theorem cc_t_a_2 {mc ms kc ks : Nat} {z : Int32} : wL_lawOf_198 (fun r _ => r = 1) mc ms 2 2 0 1 z z kc ks 2 1 cc_c1 cc_c2 cc_c3 cc_c4 cc_c5 cc_c6 cc_c7 cc_c8 cc_c9 := by
  refine br_t rfl ?_
  repeat (first
    | refine ⟨vp_in_iff.mpr (by decide +kernel), ?_⟩
    | refine br_t (by decide +kernel) ?_
    | refine br_f (by decide +kernel) ?_
    | (intro x hx; subst hx)
    | refine ⟨12, ?_⟩
    | exact rfl)
theorem cc_t_a_3 {mc ms kc ks : Nat} {z : Int32} : wL_lawOf_198 (fun r _ => r = 1) mc ms 3 2 0 1 z z kc ks 2 1 cc_c1 cc_c2 cc_c3 cc_c4 cc_c5 cc_c6 cc_c7 cc_c8 cc_c9 := by
  refine br_t rfl ?_
  repeat (first
    | refine ⟨vp_in_iff.mpr (by decide +kernel), ?_⟩
    | refine br_t (by decide +kernel) ?_
    | refine br_f (by decide +kernel) ?_
    | (intro x hx; subst hx)
    | refine ⟨12, ?_⟩
    | exact rfl)
theorem cc_t_c_0 {mc ms kc ks : Nat} {z : Int32} : wL_lawOf_198 (fun r _ => r = 1) mc ms 0 2 1 1 z z kc ks 2 1 cc_d1 cc_d2 cc_d3 cc_d4 cc_d5 cc_d6 cc_d7 cc_d8 cc_d9 := by
  refine br_t rfl ?_
  repeat (first
    | refine ⟨vp_in_iff.mpr (by decide +kernel), ?_⟩
    | refine br_t (by decide +kernel) ?_
    | refine br_f (by decide +kernel) ?_
    | (intro x hx; subst hx)
    | refine ⟨12, ?_⟩
    | exact rfl)
theorem cc_t_c_1 {mc ms kc ks : Nat} {z : Int32} : wL_lawOf_198 (fun r _ => r = 1) mc ms 1 2 1 1 z z kc ks 2 1 cc_d1 cc_d2 cc_d3 cc_d4 cc_d5 cc_d6 cc_d7 cc_d8 cc_d9 := by
  refine br_t rfl ?_
  repeat (first
    | refine ⟨vp_in_iff.mpr (by decide +kernel), ?_⟩
    | refine br_t (by decide +kernel) ?_
    | refine br_f (by decide +kernel) ?_
    | (intro x hx; subst hx)
    | refine ⟨12, ?_⟩
    | exact rfl)
theorem cc_t_c_2 {mc ms kc ks : Nat} {z : Int32} : wL_lawOf_198 (fun r _ => r = 1) mc ms 2 2 1 1 z z kc ks 2 1 cc_d1 cc_d2 cc_d3 cc_d4 cc_d5 cc_d6 cc_d7 cc_d8 cc_d9 := by
  refine br_t rfl ?_
  repeat (first
    | refine ⟨vp_in_iff.mpr (by decide +kernel), ?_⟩
    | refine br_t (by decide +kernel) ?_
    | refine br_f (by decide +kernel) ?_
    | (intro x hx; subst hx)
    | refine ⟨12, ?_⟩
    | exact rfl)
theorem cc_t_c_3 {mc ms kc ks : Nat} {z : Int32} : wL_lawOf_198 (fun r _ => r = 1) mc ms 3 2 1 1 z z kc ks 2 1 cc_d1 cc_d2 cc_d3 cc_d4 cc_d5 cc_d6 cc_d7 cc_d8 cc_d9 := by
  refine br_t rfl ?_
  repeat (first
    | refine ⟨vp_in_iff.mpr (by decide +kernel), ?_⟩
    | refine br_t (by decide +kernel) ?_
    | refine br_f (by decide +kernel) ?_
    | (intro x hx; subst hx)
    | refine ⟨12, ?_⟩
    | exact rfl)
theorem cc_r_0 {mc ms kc ks : Nat} {z : Int32} : wL_lawOf_290 (fun r _ => r = 1) mc ms 0 z z kc ks 0 1 cc_z cc_z cc_z cc_z cc_z cc_z cc_z cc_z cc_z := by
  refine br_t rfl ?_
  repeat (first
    | refine ⟨vp_in_iff.mpr (by decide +kernel), ?_⟩
    | refine br_t (by decide +kernel) ?_
    | refine br_f (by decide +kernel) ?_
    | (intro x hx; subst hx)
    | refine ⟨12, ?_⟩
    | exact rfl)
theorem cc_w_0 {mc ms kc ks : Nat} {x ch z : Int32} (hx : x < 0 ∨ (1 : Int32) <<< ((0 : Int32) &&& 31) ≤ x) : wL_lawOf_221 (fun r _ => r = 1) mc ms x 0 ch 0 z kc ks 0 1 cc_z cc_z cc_z cc_z cc_z cc_z cc_z cc_z cc_z :=
  cc_width_bad hx (br_t rfl (br_t rfl (cc_longest_bad hx (br_t rfl cc_r_0))))
theorem cc_b_0 {mc ms kc ks : Nat} {x ch z : Int32} (hx : x < 0 ∨ (1 : Int32) <<< ((0 : Int32) &&& 31) ≤ x) : wL_lawOf_198 (fun r _ => r = 1) mc ms x 0 ch 0 z z kc ks 0 1 cc_z cc_z cc_z cc_z cc_z cc_z cc_z cc_z cc_z :=
  br_t rfl (br_c (fun _ => cc_w_0 hx) (fun _ => br_c (fun _ => cc_w_0 hx) (fun _ => cc_w_0 hx)))
theorem cc_r_1 {mc ms kc ks : Nat} {z : Int32} : wL_lawOf_290 (fun r _ => r = 1) mc ms 1 z z kc ks 1 1 cc_b1 cc_b2 cc_b3 cc_b4 cc_b5 cc_b6 cc_b7 cc_b8 cc_b9 := by
  refine br_t rfl ?_
  repeat (first
    | refine ⟨vp_in_iff.mpr (by decide +kernel), ?_⟩
    | refine br_t (by decide +kernel) ?_
    | refine br_f (by decide +kernel) ?_
    | (intro x hx; subst hx)
    | refine ⟨12, ?_⟩
    | exact rfl)
theorem cc_w_1 {mc ms kc ks : Nat} {x ch z : Int32} (hx : x < 0 ∨ (1 : Int32) <<< ((1 : Int32) &&& 31) ≤ x) : wL_lawOf_221 (fun r _ => r = 1) mc ms x 1 ch 0 z kc ks 1 1 cc_b1 cc_b2 cc_b3 cc_b4 cc_b5 cc_b6 cc_b7 cc_b8 cc_b9 :=
  cc_width_bad hx (br_t rfl (br_t rfl (cc_longest_bad hx (br_t rfl cc_r_1))))
theorem cc_b_1 {mc ms kc ks : Nat} {x ch z : Int32} (hx : x < 0 ∨ (1 : Int32) <<< ((1 : Int32) &&& 31) ≤ x) : wL_lawOf_198 (fun r _ => r = 1) mc ms x 1 ch 0 z z kc ks 1 1 cc_b1 cc_b2 cc_b3 cc_b4 cc_b5 cc_b6 cc_b7 cc_b8 cc_b9 :=
  br_t rfl (br_c (fun _ => cc_w_1 hx) (fun _ => br_c (fun _ => cc_w_1 hx) (fun _ => cc_w_1 hx)))
theorem cc_r_a {mc ms kc ks : Nat} {z : Int32} : wL_lawOf_290 (fun r _ => r = 1) mc ms 2 z z kc ks 2 1 cc_c1 cc_c2 cc_c3 cc_c4 cc_c5 cc_c6 cc_c7 cc_c8 cc_c9 := by
  refine br_t rfl ?_
  repeat (first
    | refine ⟨vp_in_iff.mpr (by decide +kernel), ?_⟩
    | refine br_t (by decide +kernel) ?_
    | refine br_f (by decide +kernel) ?_
    | (intro x hx; subst hx)
    | refine ⟨12, ?_⟩
    | exact rfl)
theorem cc_w_a {mc ms kc ks : Nat} {x ch z : Int32} (hx : x < 0 ∨ (1 : Int32) <<< ((2 : Int32) &&& 31) ≤ x) : wL_lawOf_221 (fun r _ => r = 1) mc ms x 2 ch 0 z kc ks 2 1 cc_c1 cc_c2 cc_c3 cc_c4 cc_c5 cc_c6 cc_c7 cc_c8 cc_c9 :=
  cc_width_bad hx (br_t rfl (br_t rfl (cc_longest_bad hx (br_t rfl cc_r_a))))
theorem cc_b_a {mc ms kc ks : Nat} {x ch z : Int32} (hx : x < 0 ∨ (1 : Int32) <<< ((2 : Int32) &&& 31) ≤ x) : wL_lawOf_198 (fun r _ => r = 1) mc ms x 2 ch 0 z z kc ks 2 1 cc_c1 cc_c2 cc_c3 cc_c4 cc_c5 cc_c6 cc_c7 cc_c8 cc_c9 :=
  br_t rfl (br_c (fun _ => cc_w_a hx) (fun _ => br_c (fun _ => cc_w_a hx) (fun _ => cc_w_a hx)))
theorem cc_r_c {mc ms kc ks : Nat} {z : Int32} : wL_lawOf_290 (fun r _ => r = 1) mc ms 2 z z kc ks 2 1 cc_d1 cc_d2 cc_d3 cc_d4 cc_d5 cc_d6 cc_d7 cc_d8 cc_d9 := by
  refine br_t rfl ?_
  repeat (first
    | refine ⟨vp_in_iff.mpr (by decide +kernel), ?_⟩
    | refine br_t (by decide +kernel) ?_
    | refine br_f (by decide +kernel) ?_
    | (intro x hx; subst hx)
    | refine ⟨12, ?_⟩
    | exact rfl)
theorem cc_w_c {mc ms kc ks : Nat} {x ch z : Int32} (hx : x < 0 ∨ (1 : Int32) <<< ((2 : Int32) &&& 31) ≤ x) : wL_lawOf_221 (fun r _ => r = 1) mc ms x 2 ch 0 z kc ks 2 1 cc_d1 cc_d2 cc_d3 cc_d4 cc_d5 cc_d6 cc_d7 cc_d8 cc_d9 :=
  cc_width_bad hx (br_t rfl (br_t rfl (cc_longest_bad hx (br_t rfl cc_r_c))))
theorem cc_b_c {mc ms kc ks : Nat} {x ch z : Int32} (hx : x < 0 ∨ (1 : Int32) <<< ((2 : Int32) &&& 31) ≤ x) : wL_lawOf_198 (fun r _ => r = 1) mc ms x 2 ch 0 z z kc ks 2 1 cc_d1 cc_d2 cc_d3 cc_d4 cc_d5 cc_d6 cc_d7 cc_d8 cc_d9 :=
  br_t rfl (br_c (fun _ => cc_w_c hx) (fun _ => br_c (fun _ => cc_w_c hx) (fun _ => cc_w_c hx)))
end
section
/-- an int that is an element of n, or is none -/
theorem cc_isE {post : Int32 → Prop} {am : Int32} {n : Nat} {a1 a2 a3 a4 a5 a6 a7 a8 a9 : Nat → Int32} (x : Int32) (hn : n < 2 ^ 31) (h0 : post 0) (h1 : ∀ j, j < n → x = nI j → post 1) : wpX_isElement post (nI n, am, a1, a2, a3, a4, a5, a6, a7, a8, a9) x := by
  rcases pk_ix x hn with h | h | ⟨j, hj, e⟩
  · exact br_t h h0
  · exact br_c (fun _ => h0) (fun _ => br_t h h0)
  · subst e
    exact br_f (nI_pos (by omega)) (br_f (nI_ge hj hn) (h1 j hj rfl))
theorem cc_below {post : Int32 → Prop} {am : Int32} {n : Nat} {a1 a2 a3 a4 a5 a6 a7 a8 a9 : Nat → Int32} (x y : Int32) (hn : n ≤ 10) (h0 : post 0)
    (h1 : ∀ i j, i < n → j < n → x = nI i → y = nI j → ((((a1 y.toNatClampNeg) >>> (x &&& 31)) &&& 1) = 0 → post 0) ∧ (¬ (((a1 y.toNatClampNeg) >>> (x &&& 31)) &&& 1) = 0 → post 1)) :
    wpX_below post (nI n, am, a1, a2, a3, a4, a5, a6, a7, a8, a9) x y := by
  unfold wpX_below
  refine cc_isE (n := n) x (by omega) (br_t rfl h0) (fun i hi ei => br_f (by decide) ?_)
  refine cc_isE (n := n) y (by omega) (br_t rfl h0) (fun j hj ej => br_f (by decide) ⟨?_, h1 i j hi hj ei ej⟩)
  rw [ej]
  exact vp_in_nI (by omega) (by omega)
theorem cc_below_0 {post : Int32 → Prop} (x y : Int32) (h : post 0) : wpX_below post (0, 1, cc_z, cc_z, cc_z, cc_z, cc_z, cc_z, cc_z, cc_z, cc_z) x y :=
  cc_below (n := 0) x y (by omega) h (fun i j hi => absurd hi (by omega))
theorem cc_below_1 {post : Int32 → Prop} (x y : Int32) (h : post 0) : wpX_below post (1, 1, cc_b1, cc_b2, cc_b3, cc_b4, cc_b5, cc_b6, cc_b7, cc_b8, cc_b9) x y :=
  cc_below (n := 1) x y (by omega) h (fun i j hi hj ei ej => by
    obtain rfl : i = 0 := by omega
    obtain rfl : j = 0 := by omega
    subst ei
    subst ej
    exact br_t (by decide +kernel) h)
theorem cc_two (i : Nat) (h : i < 2) : i = 0 ∨ i = 1 := by omega
theorem cc_below_a {post : Int32 → Prop} (x y : Int32) (h : post 0) : wpX_below post (2, 1, cc_c1, cc_c2, cc_c3, cc_c4, cc_c5, cc_c6, cc_c7, cc_c8, cc_c9) x y :=
  cc_below (n := 2) x y (by omega) h (fun i j hi hj ei ej => by
    subst ei
    subst ej
    rcases cc_two i hi with rfl | rfl <;> rcases cc_two j hj with rfl | rfl <;> exact br_t (by decide +kernel) h)
theorem cc_below_c {post : Int32 → Prop} (x y : Int32) (h0 : ¬ (x = 0 ∧ y = 1) → post 0) (h1 : x = 0 → y = 1 → post 1) : wpX_below post (2, 1, cc_d1, cc_d2, cc_d3, cc_d4, cc_d5, cc_d6, cc_d7, cc_d8, cc_d9) x y := by
  by_cases hc : x = 0 ∧ y = 1
  · obtain ⟨rfl, rfl⟩ := hc
    repeat (first
      | refine ⟨vp_in_iff.mpr (by decide +kernel), ?_⟩
      | refine br_t (by decide +kernel) ?_
      | refine br_f (by decide +kernel) ?_
      | (intro x hx; subst hx)
      | refine ⟨12, ?_⟩
      | exact h1 rfl rfl)
  · refine cc_below (n := 2) x y (by omega) (h0 hc) (fun i j hi hj ei ej => ?_)
    subst ei
    subst ej
    rcases cc_two i hi with rfl | rfl <;> rcases cc_two j hj with rfl | rfl
    · exact br_t (by decide +kernel) (h0 hc)
    · exact absurd (⟨rfl, rfl⟩ : nI 0 = 0 ∧ nI 1 = 1) hc
    · exact br_t (by decide +kernel) (h0 hc)
    · exact br_t (by decide +kernel) (h0 hc)
theorem cc_m_0 {mc ms kc ks : Nat} {x u v is z : Int32} (h : wL_lawOf_198 (fun r _ => r = 1) mc ms x 0 0 is 0 0 kc ks 0 1 cc_z cc_z cc_z cc_z cc_z cc_z cc_z cc_z cc_z) : wL_lawOf_165 (fun r _ => r = 1) mc ms x u v 0 0 is z z kc ks 0 1 cc_z cc_z cc_z cc_z cc_z cc_z cc_z cc_z cc_z :=
  br_t rfl (cc_below_0 u v (br_t rfl h))
theorem cc_m_1 {mc ms kc ks : Nat} {x u v is z : Int32} (h : wL_lawOf_198 (fun r _ => r = 1) mc ms x 1 0 is 0 0 kc ks 1 1 cc_b1 cc_b2 cc_b3 cc_b4 cc_b5 cc_b6 cc_b7 cc_b8 cc_b9) : wL_lawOf_165 (fun r _ => r = 1) mc ms x u v 1 0 is z z kc ks 1 1 cc_b1 cc_b2 cc_b3 cc_b4 cc_b5 cc_b6 cc_b7 cc_b8 cc_b9 :=
  br_t rfl (cc_below_1 u v (br_t rfl h))
theorem cc_m_a {mc ms kc ks : Nat} {x u v is z : Int32} (h : wL_lawOf_198 (fun r _ => r = 1) mc ms x 2 0 is 0 0 kc ks 2 1 cc_c1 cc_c2 cc_c3 cc_c4 cc_c5 cc_c6 cc_c7 cc_c8 cc_c9) : wL_lawOf_165 (fun r _ => r = 1) mc ms x u v 2 0 is z z kc ks 2 1 cc_c1 cc_c2 cc_c3 cc_c4 cc_c5 cc_c6 cc_c7 cc_c8 cc_c9 :=
  br_t rfl (cc_below_a u v (br_t rfl h))
theorem cc_m_c {mc ms kc ks : Nat} {x u v is z : Int32} (h : ∀ y : Int32, wL_lawOf_198 (fun r _ => r = 1) mc ms x 2 1 is y y kc ks 2 1 cc_d1 cc_d2 cc_d3 cc_d4 cc_d5 cc_d6 cc_d7 cc_d8 cc_d9) : wL_lawOf_165 (fun r _ => r = 1) mc ms x u v 2 1 is z z kc ks 2 1 cc_d1 cc_d2 cc_d3 cc_d4 cc_d5 cc_d6 cc_d7 cc_d8 cc_d9 :=
  br_t rfl (cc_below_c u v
    (fun hc => br_f (by decide) (br_c (fun e => br_f (fun f => hc ⟨e, f⟩) (h 0)) (fun _ => h 0)))
    (fun e f => br_f (by decide) (br_t e (br_t f (h 1)))))
/-! sets: one of the 2^n, or none -/
theorem cc_ix0 {x : Int32} (h : ¬ x = 0) : x < 0 ∨ (1 : Int32) <<< ((0 : Int32) &&& 31) ≤ x := by
  rcases pk_ix x (show 1 < 2 ^ 31 by omega) with g | g | ⟨j, hj, e⟩
  · exact Or.inl g
  · exact Or.inr g
  · obtain rfl : j = 0 := by omega
    exact absurd e h
theorem cc_ix1 {x : Int32} (h : ¬ x = 0) (h' : ¬ x = 1) : x < 0 ∨ (1 : Int32) <<< ((1 : Int32) &&& 31) ≤ x := by
  rcases pk_ix x (show 2 < 2 ^ 31 by omega) with g | g | ⟨j, hj, e⟩
  · exact Or.inl g
  · exact Or.inr g
  · rcases cc_two j hj with rfl | rfl
    · exact absurd e h
    · exact absurd e h'
theorem cc_x_none {a b x u v is : Int32} (ha : ¬ a = 0) (hb : ¬ b = 0) (h : ∀ (y : Int32) (kc ks : Nat), wL_lawOf_198 (fun r _ => r = 1) 10 101 x 0 0 is y y kc ks 0 1 cc_z cc_z cc_z cc_z cc_z cc_z cc_z cc_z cc_z) : wL_lawOf_108 (fun r _ => r = 1) 10 101 a b x u v 0 0 0 0 0 is 0 0 := by
  refine ⟨by omega, by omega, 9, 90, by omega, by omega, ?_⟩
  refine ⟨by omega, by omega, by omega, by omega, by omega, by omega, by omega, by omega, by omega, by omega, by omega, by omega, by omega, by omega, by omega, by omega, by omega, by omega, ?_⟩
  exact cc_add_bad (by decide) (cc_ix0 ha) (br_t rfl (br_t rfl (cc_add_bad (by decide) (cc_ix0 hb) (br_t rfl (br_t rfl (cc_m_0 (h 0 _ _)))))))
theorem cc_x_single {a x u v is : Int32} (ha : ¬ a = 0) (h : ∀ (y : Int32) (kc ks : Nat), wL_lawOf_198 (fun r _ => r = 1) 10 101 x 1 0 is y y kc ks 1 1 cc_b1 cc_b2 cc_b3 cc_b4 cc_b5 cc_b6 cc_b7 cc_b8 cc_b9) : wL_lawOf_108 (fun r _ => r = 1) 10 101 a 0 x u v 0 0 1 1 0 is 0 0 := by
  refine ⟨by omega, by omega, 9, 90, by omega, by omega, ?_⟩
  refine ⟨by omega, by omega, by omega, by omega, by omega, by omega, by omega, by omega, by omega, by omega, by omega, by omega, by omega, by omega, by omega, by omega, by omega, by omega, ?_⟩
  exact cc_add_bad (by decide) (cc_ix0 ha) (br_t rfl (br_t rfl (cc_add_00 (br_t rfl (br_f (by decide) (cc_m_1 (h 0 _ _)))))))
theorem cc_x_one {b x u v is : Int32} (hb : ¬ b = 0) (hb1 : ¬ b = 1) (h : ∀ (y : Int32) (kc ks : Nat), wL_lawOf_198 (fun r _ => r = 1) 10 101 x 1 0 is y y kc ks 1 1 cc_b1 cc_b2 cc_b3 cc_b4 cc_b5 cc_b6 cc_b7 cc_b8 cc_b9) : wL_lawOf_108 (fun r _ => r = 1) 10 101 0 b x u v 1 0 0 1 0 is 0 0 := by
  refine ⟨by omega, by omega, 9, 90, by omega, by omega, ?_⟩
  refine ⟨by omega, by omega, by omega, by omega, by omega, by omega, by omega, by omega, by omega, by omega, by omega, by omega, by omega, by omega, by omega, by omega, by omega, by omega, ?_⟩
  exact cc_add_00 (br_f (by decide) (br_t rfl (cc_add_bad (by decide) (cc_ix1 hb hb1) (br_t rfl (br_t rfl (cc_m_1 (h 0 _ _)))))))
theorem cc_x_apart {x u v is : Int32} (h : ∀ (y : Int32) (kc ks : Nat), wL_lawOf_198 (fun r _ => r = 1) 10 101 x 2 0 is y y kc ks 2 1 cc_c1 cc_c2 cc_c3 cc_c4 cc_c5 cc_c6 cc_c7 cc_c8 cc_c9) : wL_lawOf_108 (fun r _ => r = 1) 10 101 0 0 x u v 1 1 0 2 0 is 0 0 := by
  refine ⟨by omega, by omega, 9, 90, by omega, by omega, ?_⟩
  refine ⟨by omega, by omega, by omega, by omega, by omega, by omega, by omega, by omega, by omega, by omega, by omega, by omega, by omega, by omega, by omega, by omega, by omega, by omega, ?_⟩
  exact cc_add_00 (br_f (by decide) (br_t rfl (cc_add_10 (br_f (by decide) (cc_m_a (h 0 _ _))))))
theorem cc_x_chain {x u v is : Int32} (h : ∀ (y : Int32) (kc ks : Nat), wL_lawOf_198 (fun r _ => r = 1) 10 101 x 2 1 is y y kc ks 2 1 cc_d1 cc_d2 cc_d3 cc_d4 cc_d5 cc_d6 cc_d7 cc_d8 cc_d9) : wL_lawOf_108 (fun r _ => r = 1) 10 101 0 1 x u v 1 1 0 2 1 is 0 0 := by
  refine ⟨by omega, by omega, 9, 90, by omega, by omega, ?_⟩
  refine ⟨by omega, by omega, by omega, by omega, by omega, by omega, by omega, by omega, by omega, by omega, by omega, by omega, by omega, by omega, by omega, by omega, by omega, by omega, ?_⟩
  exact cc_add_00 (br_f (by decide) (br_t rfl (cc_add_11 (br_f (by decide) (cc_m_c (fun y => h y _ _))))))
theorem cc_y_none {a b x u v : Int32} (ha : ¬ a = 0) (hb : ¬ b = 0) : wL_lawOf_89 (fun r _ => r = 1) 10 101 a b x u v 0 0 0 0 0 0 0 := by
  rcases pk_ix x (show 1 < 2 ^ 31 by omega) with g | g | ⟨j, hj, e⟩
  · exact br_t g (cc_x_none ha hb (fun y kc ks => cc_b_0 (Or.inl g)))
  · exact br_c (fun g' => cc_x_none ha hb (fun y kc ks => cc_b_0 (Or.inl g'))) (fun _ => br_t g (cc_x_none ha hb (fun y kc ks => cc_b_0 (Or.inr g))))
  · subst e
    refine br_f (nI_pos (by omega)) (br_f (nI_ge (b := 1) hj (by omega)) ?_)
    obtain rfl : j = 0 := by omega
    exact cc_x_none ha hb (fun y kc ks => cc_t_0_0)
theorem cc_y_single {a x u v : Int32} (ha : ¬ a = 0) : wL_lawOf_89 (fun r _ => r = 1) 10 101 a 0 x u v 0 0 1 1 0 0 0 := by
  rcases pk_ix x (show 2 < 2 ^ 31 by omega) with g | g | ⟨j, hj, e⟩
  · exact br_t g (cc_x_single ha (fun y kc ks => cc_b_1 (Or.inl g)))
  · exact br_c (fun g' => cc_x_single ha (fun y kc ks => cc_b_1 (Or.inl g'))) (fun _ => br_t g (cc_x_single ha (fun y kc ks => cc_b_1 (Or.inr g))))
  · subst e
    refine br_f (nI_pos (by omega)) (br_f (nI_ge (b := 2) hj (by omega)) ?_)
    by_cases e0 : j = 0
    · subst e0
      exact cc_x_single ha (fun y kc ks => cc_t_1_0)
    obtain rfl : j = 1 := by omega
    exact cc_x_single ha (fun y kc ks => cc_t_1_1)
theorem cc_y_one {b x u v : Int32} (hb : ¬ b = 0) (hb1 : ¬ b = 1) : wL_lawOf_89 (fun r _ => r = 1) 10 101 0 b x u v 1 0 0 1 0 0 0 := by
  rcases pk_ix x (show 2 < 2 ^ 31 by omega) with g | g | ⟨j, hj, e⟩
  · exact br_t g (cc_x_one hb hb1 (fun y kc ks => cc_b_1 (Or.inl g)))
  · exact br_c (fun g' => cc_x_one hb hb1 (fun y kc ks => cc_b_1 (Or.inl g'))) (fun _ => br_t g (cc_x_one hb hb1 (fun y kc ks => cc_b_1 (Or.inr g))))
  · subst e
    refine br_f (nI_pos (by omega)) (br_f (nI_ge (b := 2) hj (by omega)) ?_)
    by_cases e0 : j = 0
    · subst e0
      exact cc_x_one hb hb1 (fun y kc ks => cc_t_1_0)
    obtain rfl : j = 1 := by omega
    exact cc_x_one hb hb1 (fun y kc ks => cc_t_1_1)
theorem cc_y_apart {x u v : Int32} : wL_lawOf_89 (fun r _ => r = 1) 10 101 0 0 x u v 1 1 0 2 0 0 0 := by
  rcases pk_ix x (show 4 < 2 ^ 31 by omega) with g | g | ⟨j, hj, e⟩
  · exact br_t g (cc_x_apart (fun y kc ks => cc_b_a (Or.inl g)))
  · exact br_c (fun g' => cc_x_apart (fun y kc ks => cc_b_a (Or.inl g'))) (fun _ => br_t g (cc_x_apart (fun y kc ks => cc_b_a (Or.inr g))))
  · subst e
    refine br_f (nI_pos (by omega)) (br_f (nI_ge (b := 4) hj (by omega)) ?_)
    by_cases e0 : j = 0
    · subst e0
      exact cc_x_apart (fun y kc ks => cc_t_a_0)
    by_cases e1 : j = 1
    · subst e1
      exact cc_x_apart (fun y kc ks => cc_t_a_1)
    by_cases e2 : j = 2
    · subst e2
      exact cc_x_apart (fun y kc ks => cc_t_a_2)
    obtain rfl : j = 3 := by omega
    exact cc_x_apart (fun y kc ks => cc_t_a_3)
theorem cc_y_chain {x u v : Int32} : wL_lawOf_89 (fun r _ => r = 1) 10 101 0 1 x u v 1 1 0 2 1 0 0 := by
  rcases pk_ix x (show 4 < 2 ^ 31 by omega) with g | g | ⟨j, hj, e⟩
  · exact br_t g (cc_x_chain (fun y kc ks => cc_b_c (Or.inl g)))
  · exact br_c (fun g' => cc_x_chain (fun y kc ks => cc_b_c (Or.inl g'))) (fun _ => br_t g (cc_x_chain (fun y kc ks => cc_b_c (Or.inr g))))
  · subst e
    refine br_f (nI_pos (by omega)) (br_f (nI_ge (b := 4) hj (by omega)) ?_)
    by_cases e0 : j = 0
    · subst e0
      exact cc_x_chain (fun y kc ks => cc_t_c_0)
    by_cases e1 : j = 1
    · subst e1
      exact cc_x_chain (fun y kc ks => cc_t_c_1)
    by_cases e2 : j = 2
    · subst e2
      exact cc_x_chain (fun y kc ks => cc_t_c_2)
    obtain rfl : j = 3 := by omega
    exact cc_x_chain (fun y kc ks => cc_t_c_3)
/-! the law's head: which script is which -/
theorem cc_lawOf (a b x u v : Int32) : wpL_lawOf (fun r _ => r = 1) 10 101 () a b x u v := by
  by_cases ha : a = 0
  · subst ha
    refine br_t rfl (br_f (by decide) ?_)
    by_cases hb : b = 0
    · subst hb
      exact br_t rfl (br_f (by decide) (br_f (by decide) (br_f (by decide) (br_f (by decide) cc_y_apart))))
    · by_cases hb1 : b = 1
      · subst hb1
        exact br_f (by decide) (br_t rfl (br_f (by decide) (br_f (by decide) (br_f (by decide) (br_t rfl cc_y_chain)))))
      · exact br_f hb (br_f hb1 (br_f (by decide) (br_t rfl (br_f (by decide) (br_t rfl (cc_y_one hb hb1))))))
  · refine br_f ha (br_t rfl ?_)
    by_cases hb : b = 0
    · subst hb
      exact br_t rfl (br_t rfl (br_t rfl (br_t rfl (br_f (by decide) (br_t rfl (cc_y_single ha))))))
    · exact br_t rfl (br_f hb (br_t rfl (br_t rfl (br_t rfl (br_t rfl (cc_y_none ha hb))))))
theorem cc_cell {post : Int32 → Prop} {L : Nat} {xs : Nat → Int32} (k : Nat) (hL : L ≤ 5) (hk : k < 5) (h : ∀ r, post r) : wpL_cellAt post L xs () (nI k) :=
  pk_le L k (fun _ => h _) (fun g => ⟨vp_in_nI g (by omega), h _⟩)
theorem i_vc (xs : Nat → Int32) (L : Nat) (hL : L ≤ 5) : wpL_law (fun r => r = 1) L xs := by
  refine cc_cell 0 hL (by omega) (fun a => cc_cell 1 hL (by omega) (fun b => cc_cell 2 hL (by omega) (fun x => cc_cell 3 hL (by omega) (fun u => cc_cell 4 hL (by omega) (fun v => ?_)))))
  exact ⟨10, 101, by omega, by omega, cc_lawOf a b x u v⟩
end
