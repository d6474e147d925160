section
/-! the tail of the law: lines, feed, inject, candidates, healthy. The state: g gates (0 or 1), left = -1, feeds 4, 5, 6 -/
section
variable {post : Int32 → St0 → Prop} {mc ms kc ks : Nat} {g dev noted gr : Int32} {lh : Int64} {a1 a2 a3 a4 a5 : Nat → Int32} {a6 a7 a8 a9 : Nat → Int64}
/-- no gate: 14 faults -/
theorem sd_cand0 {P : Int32 → Prop} (h : P 14) : wpX_candidates P (0, dev, noted, -1, lh, gr, a1, a2, a3, a4, a5, a6, a7, a8, a9) := by
  unfold wpX_candidates wpX_faults wpX_ones
  dsimp only
  intro x1 e1 x2 e2 x3 e3
  subst e1
  subst e2
  subst e3
  refine sb_at (P := P) (y := 14) ?_ h
  decide +kernel
/-- one gate: 16 faults -/
theorem sd_cand1 {P : Int32 → Prop} (h : P 16) : wpX_candidates P (1, dev, noted, -1, lh, gr, a1, a2, a3, a4, a5, a6, a7, a8, a9) := by
  unfold wpX_candidates wpX_faults wpX_ones
  dsimp only
  intro x1 e1 x2 e2 x3 e3
  subst e1
  subst e2
  subst e3
  refine sb_at (P := P) (y := 16) ?_ h
  decide +kernel
theorem sd_260 {x11 z : Int32} (hp : post 1 ()) (hg : g = 0 ∨ g = 1) (hx : x11 = 7 + g) : wL_lawOf_260 post mc ms x11 z z kc ks g dev noted (-1) lh gr a1 a2 a3 a4 a5 a6 a7 a8 a9 := by
  subst hx
  rcases hg with rfl | rfl
  · exact br_t rfl (sd_cand0 (br_t (by decide) (br_f (by decide) (br_t rfl hp))))
  · exact br_t rfl (sd_cand1 (br_t (by decide) (br_f (by decide) (br_t rfl hp))))
/-- inject: the law's 'there' and the class's answer agree -/
theorem sd_211 {x5 x11 z : Int32} (hp : post 1 ()) (hg : g = 0 ∨ g = 1) (hx : x11 = 7 + g) : wL_lawOf_211 post mc ms x5 x11 z z kc ks g dev noted (-1) lh gr a1 a2 a3 a4 a5 a6 a7 a8 a9 := by
  subst hx
  refine br_t rfl (br_c (fun h => ?_) (fun h => br_c (fun h1 => ?_) (fun h1 => br_c (fun h2 => ?_) (fun h2 => ?_))))
  · unfold wL_lawOf_236 wL_lawOf_241 wpX_inject
    exact br_t h (br_f (by decide) (sd_260 hp hg rfl))
  · unfold wL_lawOf_240 wL_lawOf_241 wpX_inject
    exact br_f h (br_t h1 (br_t rfl (br_t rfl (sd_260 hp hg rfl))))
  · unfold wL_lawOf_240 wL_lawOf_241 wpX_inject
    exact br_f h (br_f h1 (br_t h2 (br_t rfl (br_t rfl (sd_260 hp hg rfl)))))
  · unfold wL_lawOf_236 wL_lawOf_241 wpX_inject
    exact br_f h (br_f h1 (br_f h2 (br_f (by decide) (br_f (by decide) (sd_260 hp hg rfl)))))
/-- feed with k out of range -/
theorem sd_179a {x3 x4 x5 x11 z0 : Int32} (hp : post 1 ()) (hg : g = 0 ∨ g = 1) (hx : x11 = 7 + g) (h : x3 < 0 ∨ 2 < x3) : wL_lawOf_179 post mc ms x3 x4 x5 x11 0 z0 kc ks g dev noted (-1) lh gr a1 a2 a3 a4 a5 a6 a7 a8 a9 := by
  unfold wL_lawOf_179 wpX_feed
  refine br_c (fun _ => br_t rfl (sd_211 hp hg hx)) (fun h0 => br_f ?_ (br_t rfl (sd_211 hp hg hx)))
  rcases h with h | h
  · exact absurd h h0
  · exact Int32.not_le.mpr h
/-- feed with k in range, the line out of range -/
theorem sd_179b {x3 x4 x5 x11 : Int32} (hp : post 1 ()) (hg : g = 0 ∨ g = 1) (hx : x11 = 7 + g) (h : ¬ x3 < 0) (h' : ¬ 2 < x3) (h4 : x4 < 0 ∨ x11 ≤ x4) : wL_lawOf_179 post mc ms x3 x4 x5 x11 1 0 kc ks g dev noted (-1) lh gr a1 a2 a3 a4 a5 a6 a7 a8 a9 := by
  have h2 : x3 ≤ 2 := Int32.not_lt.mp h'
  subst hx
  unfold wL_lawOf_179 wpX_feed
  refine br_f h (br_t h2 ?_)
  unfold wpX_isLine
  refine br_c (fun _ => br_t rfl (br_f (by decide) (br_t rfl (sd_211 hp hg rfl)))) (fun h0 => br_t ?_ (br_t rfl (br_f (by decide) (br_t rfl (sd_211 hp hg rfl)))))
  rcases h4 with h4 | h4
  · exact absurd h4 h0
  · exact h4
/-- feed with both in range: the answer is the feed before, 4 + k -/
theorem sd_179c {x3 x4 x5 x11 : Int32} (hp : post 1 ()) (hg : g = 0 ∨ g = 1) (hx : x11 = 7 + g) (hf : ∀ j, j < 3 → a4 j = 4 + nI j) (h : ¬ x3 < 0) (h' : ¬ 2 < x3) (h4 : ¬ x4 < 0) (h5 : ¬ x11 ≤ x4) : wL_lawOf_179 post mc ms x3 x4 x5 x11 1 1 kc ks g dev noted (-1) lh gr a1 a2 a3 a4 a5 a6 a7 a8 a9 := by
  have h2 : x3 ≤ 2 := Int32.not_lt.mp h'
  obtain ⟨j, hj, rfl⟩ := nI_of2 (M := 2) (n := 2) (by decide) h h2
  have hin : vp_in (nI j) 3 := vp_in_nI (by omega) (by decide)
  have hv : a4 (nI j).toNatClampNeg = 4 + nI j := by
    rw [nI_clamp (by omega)]
    exact hf j (by omega)
  subst hx
  unfold wL_lawOf_179 wpX_feed
  refine br_f h (br_t h2 ?_)
  unfold wpX_isLine
  exact br_f h4 (br_f h5 (br_f (by decide) ⟨hin, nm_r hv ⟨hin, nm_e (br_f (by decide) (br_f (by decide) (sd_211 hp hg rfl)))⟩⟩))
theorem sd_160a {x3 x4 x5 x11 : Int32} (hp : post 1 ()) (hg : g = 0 ∨ g = 1) (hx : x11 = 7 + g) (h : x3 < 0 ∨ 2 < x3) : wL_lawOf_160 post mc ms x3 x4 x5 x11 0 kc ks g dev noted (-1) lh gr a1 a2 a3 a4 a5 a6 a7 a8 a9 :=
  br_c (fun _ => sd_179a hp hg hx h) (fun _ => br_c (fun _ => sd_179a hp hg hx h) (fun _ => sd_179a hp hg hx h))
theorem sd_160b {x3 x4 x5 x11 : Int32} (hp : post 1 ()) (hg : g = 0 ∨ g = 1) (hx : x11 = 7 + g) (hf : ∀ j, j < 3 → a4 j = 4 + nI j) (h : ¬ x3 < 0) (h' : ¬ 2 < x3) : wL_lawOf_160 post mc ms x3 x4 x5 x11 1 kc ks g dev noted (-1) lh gr a1 a2 a3 a4 a5 a6 a7 a8 a9 :=
  br_c (fun h4 => sd_179b hp hg hx h h' (Or.inl h4)) (fun h4 => br_c (fun h5 => sd_179b hp hg hx h h' (Or.inr h5)) (fun h5 => sd_179c hp hg hx hf h h' h4 h5))
theorem sd_132 {x3 x4 x5 z0 : Int32} (hp : post 1 ()) (hg : g = 0 ∨ g = 1) (hx : z0 = 7 + g) (hf : ∀ j, j < 3 → a4 j = 4 + nI j) : wL_lawOf_132 post mc ms x3 x4 x5 z0 kc ks g dev noted (-1) lh gr a1 a2 a3 a4 a5 a6 a7 a8 a9 :=
  br_t hx.symm (br_c (fun h => sd_160a hp hg hx (Or.inl h)) (fun h => br_c (fun h' => sd_160a hp hg hx (Or.inr h')) (fun h' => sd_160b hp hg hx hf h h')))
/-- behind gate: the answers agree, and one gate is there exactly if it was made -/
theorem sd_115a {x3 x4 x5 z : Int32} (hp : post 1 ()) (hf : ∀ j, j < 3 → a4 j = 4 + nI j) : wL_lawOf_115 post mc ms x3 x4 x5 0 z z kc ks 0 dev noted (-1) lh gr a1 a2 a3 a4 a5 a6 a7 a8 a9 :=
  br_t rfl (br_t rfl (sd_132 hp (Or.inl rfl) (by decide) hf))
theorem sd_115b {x3 x4 x5 : Int32} (hp : post 1 ()) (hf : ∀ j, j < 3 → a4 j = 4 + nI j) : wL_lawOf_115 post mc ms x3 x4 x5 1 7 (7 + 1 - 1) kc ks 1 dev noted (-1) lh gr a1 a2 a3 a4 a5 a6 a7 a8 a9 :=
  br_t (by decide) (br_f (by decide) (sd_132 hp (Or.inr rfl) (by decide) hf))
end
end
section
/-! the head of the law: the new object, known, one, two, made, gate -/
section
variable {post : Int32 → St0 → Prop} {mc ms kc ks : Nat} {dev noted gr : Int32} {lh : Int64} {a1 a2 a3 a4 a5 : Nat → Int32} {a6 a7 a8 a9 : Nat → Int64}
/-- gate that makes: one gate more, the feeds as they were -/
theorem sd_g85 {P : Int32 → St2 → Prop} {x : Int32} (H : ∀ b3, P (7 + 1 - 1) (1, dev, 0, -1, lh, 0, a1, a2, b3, a4, a5, a6, a7, a8, a9)) : wX_gate_85 P x 0 0 dev noted (-1) lh gr a1 a2 a3 a4 a5 a6 a7 a8 a9 :=
  ⟨pk_in 0 14 (by decide), nm_e (nm_r (e' := 1) (by decide) (H _))⟩
theorem sd_g35 {P : Int32 → St2 → Prop} {x y z : Int32} (H : ∀ b1 b2 b3, P (7 + 1 - 1) (1, dev, 0, -1, lh, 0, b1, b2, b3, a4, a5, a6, a7, a8, a9)) : wX_gate_35 P x y z 0 dev noted (-1) lh gr a1 a2 a3 a4 a5 a6 a7 a8 a9 :=
  br_f (by decide) ⟨pk_in 0 14 (by decide), nm_e ⟨pk_in 0 14 (by decide), nm_e (br_c (fun _ => sd_g85 (H _ _)) (fun _ => sd_g85 (H _ _)))⟩⟩
/-- isLine with no gate: 0 to 6 -/
theorem sd_line0 {P : Int32 → Prop} {x : Int32} (h : x < 0 ∨ 7 ≤ x) (hP : P 0) : wpX_isLine P (0, dev, noted, -1, lh, gr, a1, a2, a3, a4, a5, a6, a7, a8, a9) x := by
  unfold wpX_isLine
  refine br_c (fun _ => hP) (fun h0 => br_t ?_ hP)
  rcases h with h | h
  · exact absurd h h0
  · exact h
theorem sd_line1 {P : Int32 → Prop} {x : Int32} (h : ¬ x < 0) (h' : ¬ 7 ≤ x) (hP : P 1) : wpX_isLine P (0, dev, noted, -1, lh, gr, a1, a2, a3, a4, a5, a6, a7, a8, a9) x :=
  br_f h (br_f h' hP)
/-- an unknown kind -/
theorem sd_84a {x0 x1 x2 x3 x4 x5 : Int32} (hp : post 1 ()) (hf : ∀ j, j < 3 → a4 j = 4 + nI j) (h : x0 < 0 ∨ 5 < x0) : wL_lawOf_84 post mc ms x0 x1 x2 x3 x4 x5 0 0 kc ks 0 dev noted (-1) lh gr a1 a2 a3 a4 a5 a6 a7 a8 a9 := by
  unfold wL_lawOf_84 wpX_gate
  refine br_c (fun _ => br_t rfl (sd_115a hp hf)) (fun h0 => br_f ?_ (br_t rfl (sd_115a hp hf)))
  rcases h with h | h
  · exact absurd h h0
  · exact Int32.not_le.mpr h
/-- a known kind, the first line out of range -/
theorem sd_84b {x0 x1 x2 x3 x4 x5 : Int32} (hp : post 1 ()) (hf : ∀ j, j < 3 → a4 j = 4 + nI j) (h : ¬ x0 < 0) (h' : ¬ 5 < x0) (h1 : x1 < 0 ∨ 7 ≤ x1) : wL_lawOf_84 post mc ms x0 x1 x2 x3 x4 x5 1 0 kc ks 0 dev noted (-1) lh gr a1 a2 a3 a4 a5 a6 a7 a8 a9 := by
  unfold wL_lawOf_84 wpX_gate
  exact br_f h (br_t (Int32.not_lt.mp h') (sd_line0 h1 (br_t rfl (br_f (by decide) (br_t rfl (sd_115a hp hf))))))
/-- a known kind other than NOT, the second line out of range -/
theorem sd_84c {x0 x1 x2 x3 x4 x5 : Int32} (hp : post 1 ()) (hf : ∀ j, j < 3 → a4 j = 4 + nI j) (h : ¬ x0 < 0) (h' : ¬ 5 < x0) (h1 : ¬ x1 < 0) (h1' : ¬ 7 ≤ x1) (h5 : ¬ x0 = 5) (h2 : x2 < 0 ∨ 7 ≤ x2) : wL_lawOf_84 post mc ms x0 x1 x2 x3 x4 x5 1 0 kc ks 0 dev noted (-1) lh gr a1 a2 a3 a4 a5 a6 a7 a8 a9 := by
  unfold wL_lawOf_84 wpX_gate
  exact br_f h (br_t (Int32.not_lt.mp h') (sd_line1 h1 h1' (br_f (by decide) (br_f h5 (sd_line0 h2 (br_t rfl (br_f (by decide) (br_t rfl (sd_115a hp hf)))))))))
/-- a gate that is made -/
theorem sd_84d {x0 x1 x2 x3 x4 x5 : Int32} (hp : post 1 ()) (hf : ∀ j, j < 3 → a4 j = 4 + nI j) (h : ¬ x0 < 0) (h' : ¬ 5 < x0) (h1 : ¬ x1 < 0) (h1' : ¬ 7 ≤ x1) (h2 : x0 = 5 ∨ (¬ x2 < 0 ∧ ¬ 7 ≤ x2)) : wL_lawOf_84 post mc ms x0 x1 x2 x3 x4 x5 1 1 kc ks 0 dev noted (-1) lh gr a1 a2 a3 a4 a5 a6 a7 a8 a9 := by
  unfold wL_lawOf_84 wpX_gate
  refine br_f h (br_t (Int32.not_lt.mp h') (sd_line1 h1 h1' (br_f (by decide) (br_c (fun _ => ?_) (fun h5 => ?_)))))
  · exact sd_g35 (fun _ _ _ => br_f (by decide) (br_f (by decide) (sd_115b hp hf)))
  · rcases h2 with h2 | h2
    · exact absurd h2 h5
    · exact sd_line1 h2.1 h2.2 (br_f (by decide) (sd_g35 (fun _ _ _ => br_f (by decide) (br_f (by decide) (sd_115b hp hf)))))
/-- an unknown kind: known = 0, whatever one and two are -/
theorem sd_62a {x0 x1 x2 x3 x4 x5 x8 z0 : Int32} (hp : post 1 ()) (hf : ∀ j, j < 3 → a4 j = 4 + nI j) (h : x0 < 0 ∨ 5 < x0) : wL_lawOf_62 post mc ms x0 x1 x2 x3 x4 x5 0 x8 z0 kc ks 0 dev noted (-1) lh gr a1 a2 a3 a4 a5 a6 a7 a8 a9 :=
  br_t rfl (sd_84a hp hf h)
theorem sd_40a {x0 x1 x2 x3 x4 x5 z0 : Int32} (hp : post 1 ()) (hf : ∀ j, j < 3 → a4 j = 4 + nI j) (h : x0 < 0 ∨ 5 < x0) : wL_lawOf_40 post mc ms x0 x1 x2 x3 x4 x5 0 z0 kc ks 0 dev noted (-1) lh gr a1 a2 a3 a4 a5 a6 a7 a8 a9 :=
  br_c (fun _ => sd_62a hp hf h) (fun _ => br_c (fun _ => sd_62a hp hf h) (fun _ => br_c (fun _ => sd_62a hp hf h) (fun _ => sd_62a hp hf h)))
theorem sd_23a {x0 x1 x2 x3 x4 x5 : Int32} (hp : post 1 ()) (hf : ∀ j, j < 3 → a4 j = 4 + nI j) (h : x0 < 0 ∨ 5 < x0) : wL_lawOf_23 post mc ms x0 x1 x2 x3 x4 x5 0 kc ks 0 dev noted (-1) lh gr a1 a2 a3 a4 a5 a6 a7 a8 a9 :=
  br_c (fun _ => sd_40a hp hf h) (fun _ => br_c (fun _ => sd_40a hp hf h) (fun _ => sd_40a hp hf h))
/-- a known kind, the first line out of range: one = 0 -/
theorem sd_62b {x0 x1 x2 x3 x4 x5 z0 : Int32} (hp : post 1 ()) (hf : ∀ j, j < 3 → a4 j = 4 + nI j) (h : ¬ x0 < 0) (h' : ¬ 5 < x0) (h1 : x1 < 0 ∨ 7 ≤ x1) : wL_lawOf_62 post mc ms x0 x1 x2 x3 x4 x5 1 0 z0 kc ks 0 dev noted (-1) lh gr a1 a2 a3 a4 a5 a6 a7 a8 a9 :=
  br_f (by decide) (br_t rfl (sd_84b hp hf h h' h1))
theorem sd_40b {x0 x1 x2 x3 x4 x5 : Int32} (hp : post 1 ()) (hf : ∀ j, j < 3 → a4 j = 4 + nI j) (h : ¬ x0 < 0) (h' : ¬ 5 < x0) (h1 : x1 < 0 ∨ 7 ≤ x1) : wL_lawOf_40 post mc ms x0 x1 x2 x3 x4 x5 1 0 kc ks 0 dev noted (-1) lh gr a1 a2 a3 a4 a5 a6 a7 a8 a9 :=
  br_c (fun _ => sd_62b hp hf h h' h1) (fun _ => br_c (fun _ => sd_62b hp hf h h' h1) (fun _ => br_c (fun _ => sd_62b hp hf h h' h1) (fun _ => sd_62b hp hf h h' h1)))
/-- a known kind, the first line in range: two decides -/
theorem sd_62c {x0 x1 x2 x3 x4 x5 : Int32} (hp : post 1 ()) (hf : ∀ j, j < 3 → a4 j = 4 + nI j) (h : ¬ x0 < 0) (h' : ¬ 5 < x0) (h1 : ¬ x1 < 0) (h1' : ¬ 7 ≤ x1) (h5 : ¬ x0 = 5) (h2 : x2 < 0 ∨ 7 ≤ x2) : wL_lawOf_62 post mc ms x0 x1 x2 x3 x4 x5 1 1 0 kc ks 0 dev noted (-1) lh gr a1 a2 a3 a4 a5 a6 a7 a8 a9 :=
  br_f (by decide) (br_f (by decide) (br_t rfl (sd_84c hp hf h h' h1 h1' h5 h2)))
theorem sd_62d {x0 x1 x2 x3 x4 x5 : Int32} (hp : post 1 ()) (hf : ∀ j, j < 3 → a4 j = 4 + nI j) (h : ¬ x0 < 0) (h' : ¬ 5 < x0) (h1 : ¬ x1 < 0) (h1' : ¬ 7 ≤ x1) (h2 : x0 = 5 ∨ (¬ x2 < 0 ∧ ¬ 7 ≤ x2)) : wL_lawOf_62 post mc ms x0 x1 x2 x3 x4 x5 1 1 1 kc ks 0 dev noted (-1) lh gr a1 a2 a3 a4 a5 a6 a7 a8 a9 :=
  br_f (by decide) (br_f (by decide) (br_f (by decide) (sd_84d hp hf h h' h1 h1' h2)))
theorem sd_40c {x0 x1 x2 x3 x4 x5 : Int32} (hp : post 1 ()) (hf : ∀ j, j < 3 → a4 j = 4 + nI j) (h : ¬ x0 < 0) (h' : ¬ 5 < x0) (h1 : ¬ x1 < 0) (h1' : ¬ 7 ≤ x1) : wL_lawOf_40 post mc ms x0 x1 x2 x3 x4 x5 1 1 kc ks 0 dev noted (-1) lh gr a1 a2 a3 a4 a5 a6 a7 a8 a9 :=
  br_c (fun h5 => sd_62d hp hf h h' h1 h1' (Or.inl h5)) (fun h5 => br_c (fun h2 => sd_62c hp hf h h' h1 h1' h5 (Or.inl h2)) (fun h2 => br_c (fun h3 => sd_62c hp hf h h' h1 h1' h5 (Or.inr h3)) (fun h3 => sd_62d hp hf h h' h1 h1' (Or.inr ⟨h2, h3⟩))))
theorem sd_23b {x0 x1 x2 x3 x4 x5 : Int32} (hp : post 1 ()) (hf : ∀ j, j < 3 → a4 j = 4 + nI j) (h : ¬ x0 < 0) (h' : ¬ 5 < x0) : wL_lawOf_23 post mc ms x0 x1 x2 x3 x4 x5 1 kc ks 0 dev noted (-1) lh gr a1 a2 a3 a4 a5 a6 a7 a8 a9 :=
  br_c (fun h1 => sd_40b hp hf h h' (Or.inl h1)) (fun h1 => br_c (fun h2 => sd_40b hp hf h h' (Or.inr h2)) (fun h2 => sd_40c hp hf h h' h1 h2))
end
/-- the feeds as init lays them -/
def sd_feeds : Nat → Int32 := upd (upd (upd (fun _ => 0) 0 (4 + 0)) 1 (4 + 1)) 2 (4 + 2)
theorem sd_feeds_ok : ∀ j, j < 3 → sd_feeds j = 4 + nI j := by decide
/-- a new object: no gate, left = -1, the feeds 4, 5, 6 -/
theorem sd_init {P : St2 → Prop} {mc ms : Nat} (hc : 9 ≤ mc) (hs : 118 ≤ ms) (H : ∀ a4, (∀ j, j < 3 → a4 j = 4 + nI j) → P (0, -1, 0, -1, 0, 0, (fun _ => 0), (fun _ => 0), (fun _ => 0), a4, (fun _ => 0), (fun _ => 0), (fun _ => 0), (fun _ => 0), (fun _ => 0))) : wpX_init P mc ms (0, 0, 0, 0, 0, 0) := by
  refine ⟨by omega, by omega, by omega, by omega, by omega, by omega, by omega, by omega, by omega, by omega, by omega, by omega, by omega, by omega, by omega, by omega, by omega, by omega, 4, ?_⟩
  refine br_f (by decide) ⟨pk_in 0 3 (by decide), nm_r (e' := upd (fun _ => 0) 0 (4 + 0)) rfl (nm_r (e' := 1) (by decide) ?_)⟩
  refine br_f (by decide) ⟨pk_in 1 3 (by decide), nm_r (e' := upd (upd (fun _ => 0) 0 (4 + 0)) 1 (4 + 1)) rfl (nm_r (e' := 2) (by decide) ?_)⟩
  refine br_f (by decide) ⟨pk_in 2 3 (by decide), nm_r (e' := sd_feeds) rfl (nm_r (e' := 3) (by decide) ?_)⟩
  exact br_t (by decide) (H sd_feeds sd_feeds_ok)
theorem sd_lawOf {post : Int32 → St0 → Prop} {p0 p1 p2 p3 p4 p5 : Int32} (hp : post 1 ()) : wpL_lawOf post 10 133 () p0 p1 p2 p3 p4 p5 := by
  refine ⟨by decide, by decide, 9, 118, by decide, by decide, sd_init (by decide) (by decide) (fun a4 hf => ?_)⟩
  exact br_c (fun h => sd_23a hp hf (Or.inl h)) (fun h => br_c (fun h' => sd_23a hp hf (Or.inr h')) (fun h' => sd_23b hp hf h h'))
/-- a cell of the script, or 0 -/
theorem sd_cell {P : Int32 → Prop} {L : Nat} {xs : Nat → Int32} (hL : L ≤ 6) (k : Nat) {x : Int32} (h : ∀ r, P r) (hx : x = nI k := by rfl) (hk : k < 6 := by decide) : wpL_cellAt P L xs () x := by
  subst hx
  exact pk_le L k (fun _ => h _) (fun z => ⟨vp_in_nI z (by omega), h _⟩)
theorem i_vc (xs : Nat → Int32) (L : Nat) (hL : L ≤ 6) : wpL_law (fun r => r = 1) L xs :=
  sd_cell hL 0 fun _ => sd_cell hL 1 fun _ => sd_cell hL 2 fun _ => sd_cell hL 3 fun _ => sd_cell hL 4 fun _ => sd_cell hL 5 fun _ => ⟨10, 133, by decide, by decide, sd_lawOf rfl⟩
end
