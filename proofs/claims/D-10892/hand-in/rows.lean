section
section
variable {g0 g1 g2 g3 g4 g5 g6 g7 g8 g9 g10 : Int32} {a1 a2 a3 a4 a5 a6 a7 : Nat → Int32}
/-- the instruction that leads to itself alone -/
def qz_R (x b : Int32) : Prop := ((x = 5 ∨ x = 6 ∨ x = 7) ∧ b = 0) ∨ x = 9
/-- what an instruction other than a return leaves of level, place and the mark of the end -/
def qz_K (x b lv at' ov : Int32) : Prop := (qz_R x b → at' = 0 ∧ ov = 0 ∧ ¬ 6 ≤ lv) ∧ (x = 10 → ov = 1) ∧ (¬ qz_R x b → x ≠ 10 → ov = 0 ∧ at' ≠ 0)
/-- why one step stops -/
def qz_W (x b w : Int32) : Prop := (x = 8 → w = 5) ∧ (x = 10 → w = 6) ∧ (qz_R x b → w = 1) ∧ (x ≠ 8 → x ≠ 10 → ¬ qz_R x b → w = 4)
theorem qz_v0 (N : Nat) (h : 0 < N) (hN : N < 2 ^ 31) : vp_in 0 N := pk_in 0 N h
theorem qz_1le {p : Int32} (h : ¬ p < 0) (h0 : p ≠ 0) : (1 : Int32) ≤ p := by
  obtain ⟨j, hj, rfl⟩ := nI_of h
  have hj0 : 1 ≤ j := by
    rcases Nat.eq_zero_or_pos j with e | e
    · exact absurd (by rw [e]; exact nI_0) h0
    · exact e
  exact nI_le (a := 1) hj0 hj
theorem qz_11 {x : Int32} (h : ¬ x < 0) (h' : x ≤ 10) : x = 0 ∨ x = 1 ∨ x = 2 ∨ x = 3 ∨ x = 4 ∨ x = 5 ∨ x = 6 ∨ x = 7 ∨ x = 8 ∨ x = 9 ∨ x = 10 := by
  obtain ⟨j, hj, rfl⟩ := nI_of2 (n := 10) (M := 10) (by decide) h h'
  have T : ∀ j, j < 11 → nI j = 0 ∨ nI j = 1 ∨ nI j = 2 ∨ nI j = 3 ∨ nI j = 4 ∨ nI j = 5 ∨ nI j = 6 ∨ nI j = 7 ∨ nI j = 8 ∨ nI j = 9 ∨ nI j = 10 := by decide +kernel
  exact T j (by omega)
theorem qz_4 {x : Int32} (h : ¬ x < 0) (h' : x ≤ 3) : x = 0 ∨ x = 1 ∨ x = 2 ∨ x = 3 := by
  obtain ⟨j, hj, rfl⟩ := nI_of2 (n := 3) (M := 3) (by decide) h h'
  have T : ∀ j, j < 4 → nI j = 0 ∨ nI j = 1 ∨ nI j = 2 ∨ nI j = 3 := by decide +kernel
  exact T j (by omega)
theorem qz_i4 {x : Int32} (h : ¬ x < 0) (h' : x ≤ 3) : vp_in x 4 := by
  obtain ⟨j, hj, rfl⟩ := nI_of2 (n := 3) (M := 3) (by decide) h h'
  exact pk_in j 4 (by omega)
-- inside, bit, stuck, judge
theorem qz_in1 {post : Int32 → Prop} (h : post 1) : wpX_inside post (g0, 1, g2, g3, g4, g5, g6, g7, g8, g9, g10, a1, a2, a3, a4, a5, a6, a7) 0 :=
  br_f (by decide) (br_f (by decide) h)
theorem qz_in0 {post : Int32 → Prop} {p : Int32} (hp : p ≠ 0) (h : post 0) : wpX_inside post (g0, 1, g2, g3, g4, g5, g6, g7, g8, g9, g10, a1, a2, a3, a4, a5, a6, a7) p :=
  br_c (fun _ => h) (fun z => br_t (qz_1le z hp) h)
theorem qz_in00 {post : Int32 → Prop} {p : Int32} (h : post 0) : wpX_inside post (g0, 0, g2, g3, g4, g5, g6, g7, g8, g9, g10, a1, a2, a3, a4, a5, a6, a7) p :=
  br_c (fun _ => h) (fun z => br_t (Int32.not_lt.mp z) h)
theorem qz_bit1 {post : Int32 → Prop} (h : post 1) : wpX_bit post (g0, 1, g2, g3, g4, g5, g6, g7, g8, g9, g10, a1, a2, a3, a4, a5, a6, a7) 0 := by
  unfold wpX_bit
  exact qz_in1 (br_f (by decide) (ek_v (P := post) (sb_shl0 1) h))
theorem qz_bit0 {post : Int32 → Prop} {p : Int32} (hp : p ≠ 0) (h : post 0) : wpX_bit post (g0, 1, g2, g3, g4, g5, g6, g7, g8, g9, g10, a1, a2, a3, a4, a5, a6, a7) p := by
  unfold wpX_bit
  exact qz_in0 hp (br_t rfl h)
theorem qz_stuck0 {post : Int32 → Prop} {x : Int32} (hx : a1 0 = x) (h7 : x = 7 → ¬ 6 ≤ g2) (h8 : ¬ x = 8) (h : post 0) : wpX_stuck post (g0, g1, g2, 0, g4, g5, g6, g7, g8, g9, g10, a1, a2, a3, a4, a5, a6, a7) := by
  subst hx
  have h23 : wX_stuck_23 post g0 g1 g2 0 g4 g5 g6 g7 g8 g9 g10 a1 a2 a3 a4 a5 a6 a7 := ⟨qz_v0 20 (by omega) (by omega), br_f h8 h⟩
  exact ⟨qz_v0 20 (by omega) (by omega), br_c (fun e => br_f (h7 e) h23) (fun _ => h23)⟩
theorem qz_stuck1 {post : Int32 → Prop} (hx : a1 0 = 8) (h : post 1) : wpX_stuck post (g0, g1, 0, 0, g4, g5, g6, g7, g8, g9, g10, a1, a2, a3, a4, a5, a6, a7) := by
  have h23 : wX_stuck_23 post g0 g1 0 0 g4 g5 g6 g7 g8 g9 g10 a1 a2 a3 a4 a5 a6 a7 := ⟨qz_v0 20 (by omega) (by omega), br_t hx (br_t rfl h)⟩
  exact ⟨qz_v0 20 (by omega) (by omega), br_f (fun e => absurd (hx.symm.trans e) (by decide)) h23⟩
/-- nothing in the code: lost at once -/
theorem qz_j00 {post : Int32 → Prop} {p : Int32} (h : post 4) : wpX_judge post (g0, 0, g2, g3, 0, g5, g6, g7, g8, g9, g10, a1, a2, a3, a4, a5, a6, a7) p :=
  br_t rfl (qz_in00 (br_t rfl h))
/-- judged ahead of the first instruction: a return faults, all else is fresh -/
theorem qz_j0 {post : Int32 → Prop} {x : Int32} (hx : a1 0 = x) (h8 : x = 8 → post 5) (h : x ≠ 8 → post 0) : wpX_judge post (g0, 1, 0, 0, 0, g5, g6, g7, g8, g9, g10, a1, a2, a3, a4, a5, a6, a7) 0 := by
  by_cases e : x = 8
  · exact br_t rfl (qz_in1 (br_f (by decide) (qz_stuck1 (hx.trans e) (br_f (by decide) (h8 e)))))
  · exact br_t rfl (qz_in1 (br_f (by decide) (qz_stuck0 hx (fun _ => by decide) e (br_t rfl (br_t (by decide) (br_t (by decide) (br_t (by decide) (h e))))))))
/-- judged behind one instruction -/
theorem qz_j1 {post : Int32 → Prop} {x b w lv at' ov : Int32} (hx : a1 0 = x) (h8 : x ≠ 8) (hK : qz_K x b lv at' ov) (hw : qz_W x b w) (h : post w) : wpX_judge post (g0, 1, lv, at', ov, g5, g6, g7, 1, g9, g10, a1, a2, a3, a4, a5, a6, a7) 1 := by
  obtain ⟨k1, k2, k3⟩ := hK
  obtain ⟨_, w2, w3, w4⟩ := hw
  by_cases hR : qz_R x b
  · obtain ⟨rfl, rfl, hl⟩ := k1 hR
    rw [w3 hR] at h
    exact br_t rfl (qz_in1 (br_f (by decide) (qz_stuck0 hx (fun _ => hl) h8 (br_t rfl (br_f (by decide) (br_t rfl (br_f (by decide) h)))))))
  · by_cases hE : x = 10
    · rw [w2 hE] at h
      rw [k2 hE]
      exact br_f (by decide) h
    · obtain ⟨rfl, ha⟩ := k3 hR hE
      rw [w4 h8 hE hR] at h
      exact br_t rfl (qz_in0 ha (br_t rfl h))
end
end
section
section
variable {g0 g1 g2 g3 g4 g5 g6 g7 g8 g9 g10 : Int32} {a1 a2 a3 a4 a5 a6 a7 : Nat → Int32}
theorem qz_work {post : St2 → Prop} {x m b : Int32} (hx : x = 0 ∨ x = 1 ∨ x = 2 ∨ x = 3 ∨ x = 4) (hm : vp_in m 4) (hb : x ≠ 0 → vp_in b 4)
    (H : ∀ c5 c6 : Nat → Int32, post (g0, g1, g2, g3, g4, g5, g6, g7, g8, g9, g10, a1, a2, a3, a4, c5, c6, a7)) :
    wpX_work post (g0, g1, g2, g3, g4, g5, g6, g7, g8, g9, g10, a1, a2, a3, a4, a5, a6, a7) x m b := by
  have h7 : ∀ y : Int32, vp_in (y &&& 7) 8 := fun y => pk_andIn y (m := 7) 3 (by decide) (by omega)
  rcases hx with rfl | rfl | rfl | rfl | rfl
  · exact br_t rfl ⟨hm, nm_e (H _ _)⟩
  · exact br_f (by decide) (br_t rfl ⟨hm, hb (by decide), hm, nm_e (H _ _)⟩)
  · exact br_f (by decide) (br_f (by decide) (br_t rfl ⟨hm, hb (by decide), hm, nm_e (H _ _)⟩))
  · exact br_f (by decide) (br_f (by decide) (br_f (by decide) (br_t rfl ⟨hb (by decide), h7 _, hm, nm_e (H _ _)⟩)))
  · exact br_f (by decide) (br_f (by decide) (br_f (by decide) (br_f (by decide) ⟨hb (by decide), hm, h7 _, nm_e (H _ _)⟩)))
theorem qz_KR {x b lv : Int32} (hR : qz_R x b) (h10 : x ≠ 10) (hl : ¬ 6 ≤ lv) : qz_K x b lv 0 0 :=
  ⟨fun _ => ⟨rfl, rfl, hl⟩, fun e => absurd e h10, fun z => absurd hR z⟩
theorem qz_KN {x b lv at' : Int32} (hR : ¬ qz_R x b) (h10 : x ≠ 10) (ha : at' ≠ 0) : qz_K x b lv at' 0 :=
  ⟨fun z => absurd z hR, fun e => absurd e h10, fun _ _ => ⟨rfl, ha⟩⟩
theorem qz_KE {b lv at' : Int32} : qz_K 10 b lv at' 1 := by
  refine ⟨fun z => ?_, fun _ => rfl, fun _ z => absurd rfl z⟩
  rcases z with ⟨z | z | z, _⟩ | z
  all_goals exact absurd z (by decide)
/-- a jump to b -/
theorem qz_KJ {x b lv : Int32} (hx : x = 5 ∨ x = 6 ∨ x = 7) (h9 : x ≠ 9) (h10 : x ≠ 10) (hl : ¬ 6 ≤ lv) : qz_K x b lv b 0 := by
  by_cases e : b = 0
  · subst e
    exact qz_KR (Or.inl ⟨hx, rfl⟩) h10 hl
  · refine qz_KN (fun z => ?_) h10 e
    rcases z with ⟨_, z⟩ | z
    · exact e z
    · exact h9 z
/-- a plain instruction -/
theorem qz_KW {x b lv at' : Int32} (hx : x = 0 ∨ x = 1 ∨ x = 2 ∨ x = 3 ∨ x = 4) (ha : at' ≠ 0) : qz_K x b lv at' 0 := by
  refine qz_KN (fun z => ?_) (fun z => ?_) ha
  · rcases z with ⟨z | z | z, _⟩ | z <;> subst z <;> exact absurd hx (by decide)
  · subst z
    exact absurd hx (by decide)
theorem qz_carry {post : St2 → Prop} {x m b : Int32} (h1 : a1 0 = x) (h2 : a2 0 = m) (h3 : a3 0 = b) (h5 : ∀ j, a5 j = 0)
    (hx : ¬ x < 0) (hx' : x ≤ 10) (h8 : x ≠ 8) (hm : vp_in m 4) (hb : ¬ x < 1 → ¬ 4 < x → vp_in b 4)
    (H : ∀ (lv at' ov : Int32) (c5 c6 c7 : Nat → Int32), qz_K x b lv at' ov → post (g0, g1, lv, at', ov, g5, g6, g7, g8, g9, g10, a1, a2, a3, a4, c5, c6, c7)) :
    wpX_carry post (g0, g1, 0, 0, 0, g5, g6, g7, g8, g9, g10, a1, a2, a3, a4, a5, a6, a7) := by
  refine ⟨qz_v0 20 (by omega) (by omega), nm_r h1 ⟨qz_v0 20 (by omega) (by omega), nm_r h2 ⟨qz_v0 20 (by omega) (by omega), nm_r h3 ?_⟩⟩⟩
  have hW : (x = 0 ∨ x = 1 ∨ x = 2 ∨ x = 3 ∨ x = 4) → wpX_work (fun u => match u with | (f0, f1, f2, f3, f4, f5, f6, f7, f8, f9, f10, e1, e2, e3, e4, e5, e6, e7) => (∀ z : Int32, z = f3 + 1 → (post (f0, f1, f2, z, f4, f5, f6, f7, f8, f9, f10, e1, e2, e3, e4, e5, e6, e7)))) (g0, g1, 0, 0, 0, g5, g6, g7, g8, g9, g10, a1, a2, a3, a4, a5, a6, a7) x m b := by
    intro hc
    refine qz_work hc hm (fun z => ?_) (fun c5 c6 => nm_e (H _ _ _ c5 c6 a7 (qz_KW hc (by decide))))
    rcases hc with rfl | rfl | rfl | rfl | rfl
    · exact absurd rfl z
    all_goals exact hb (by decide) (by decide)
  rcases qz_11 hx hx' with rfl | rfl | rfl | rfl | rfl | rfl | rfl | rfl | rfl | rfl | rfl
  · exact br_f (by decide) (hW (by decide))
  · exact br_f (by decide) (hW (by decide))
  · exact br_f (by decide) (hW (by decide))
  · exact br_f (by decide) (hW (by decide))
  · exact br_f (by decide) (hW (by decide))
  · exact br_t (by decide) (br_t rfl ⟨hm, br_t (h5 _) (H _ _ _ a5 a6 a7 (qz_KJ (by decide) (by decide) (by decide) (by decide)))⟩)
  · exact br_t (by decide) (br_f (by decide) (br_t rfl (H _ _ _ a5 a6 a7 (qz_KJ (by decide) (by decide) (by decide) (by decide)))))
  · exact br_t (by decide) (br_f (by decide) (br_f (by decide) (br_t rfl ⟨qz_v0 6 (by omega) (by omega), nm_e (nm_e (H _ _ _ a5 a6 _ (qz_KJ (by decide) (by decide) (by decide) (by decide))))⟩)))
  · exact absurd rfl h8
  · exact br_t (by decide) (br_f (by decide) (br_f (by decide) (br_f (by decide) (br_f (by decide) (br_t rfl ⟨hm, nm_r (h5 _) (H _ _ _ a5 a6 a7 (qz_KR (Or.inr rfl) (by decide) (by decide)))⟩)))))
  · exact br_t (by decide) (br_f (by decide) (br_f (by decide) (br_f (by decide) (br_f (by decide) (br_f (by decide) (H _ _ _ a5 a6 a7 qz_KE))))))
theorem qz_succ {post : Int32 → Prop} {x m b : Int32} (h1 : a1 0 = x) (h2 : a2 0 = m) (h3 : a3 0 = b) (h5 : ∀ j, a5 j = 0)
    (h8 : x ≠ 8) (hm : vp_in m 4) (hr : qz_R x b → post 1) (hn : ¬ qz_R x b → post 0) :
    wpX_successors post (g0, 1, g2, 0, g4, g5, g6, g7, g8, g9, g10, a1, a2, a3, a4, a5, a6, a7) := by
  have V := qz_v0 20 (by omega) (by omega)
  refine ⟨V, nm_r h1 (qz_bit0 (by decide) ?_)⟩
  have J : (x = 5 ∨ x = 6 ∨ x = 7) → x ≠ 9 → wpX_bit post (g0, 1, g2, 0, g4, g5, g6, g7, g8, g9, g10, a1, a2, a3, a4, a5, a6, a7) (a3 0) := by
    intro hx h9
    rw [h3]
    by_cases e : b = 0
    · subst e
      exact qz_bit1 (hr (Or.inl ⟨hx, rfl⟩))
    · refine qz_bit0 e (hn (fun z => ?_))
      rcases z with ⟨_, z⟩ | z
      · exact e z
      · exact h9 z
  refine br_c (fun e => ⟨V, ?_⟩) (fun n5 => br_c (fun e => ⟨V, ?_⟩) (fun n6 => br_c (fun e => ⟨V, ?_⟩) (fun n7 => br_f h8 (br_c (fun e => ⟨V, ?_, ?_⟩) (fun n9 => ?_)))))
  · show wpX_bit _ _ (a3 0)
    rw [h3]
    by_cases eb : b = 0
    · subst eb
      exact qz_bit1 (hr (Or.inl ⟨Or.inl e, rfl⟩))
    · refine qz_bit0 eb (hn (fun z => ?_))
      rcases z with ⟨_, z⟩ | z
      · exact eb z
      · exact absurd (e.symm.trans z) (by decide)
  · exact J (Or.inr (Or.inl e)) (by rw [e]; decide)
  · exact J (Or.inr (Or.inr e)) (by rw [e]; decide)
  · show vp_in (a2 0) 4
    rw [h2]
    exact hm
  · rw [h5]
    exact qz_bit1 (hr (Or.inr e))
  · have N : ¬ qz_R x b := by
      intro z
      rcases z with ⟨z | z | z, _⟩ | z
      · exact n5 z
      · exact n6 z
      · exact n7 z
      · exact n9 z
    exact br_c (fun _ => hn N) (fun _ => hn N)
end
end
section
section
variable {g0 g1 g2 g3 g4 g5 g6 g7 g8 g9 g10 : Int32} {a1 a2 a3 a4 a5 a6 a7 : Nat → Int32}
/-- how many instructions one step carries out -/
def qz_C (x c : Int32) : Prop := (x = 8 → c = 0) ∧ (x ≠ 8 → c = 1)
theorem qz_Wex (x b : Int32) : ∃ w, qz_W x b w ∧ w ≠ 0 := by
  by_cases e8 : x = 8
  · subst e8
    refine ⟨5, ⟨fun _ => rfl, fun z => absurd z (by decide), fun z => ?_, fun z => absurd rfl z⟩, by decide⟩
    rcases z with ⟨z | z | z, _⟩ | z
    all_goals exact absurd z (by decide)
  · by_cases e10 : x = 10
    · subst e10
      refine ⟨6, ⟨fun z => absurd z e8, fun _ => rfl, fun z => ?_, fun _ z => absurd rfl z⟩, by decide⟩
      rcases z with ⟨z | z | z, _⟩ | z
      all_goals exact absurd z (by decide)
    · by_cases hR : qz_R x b
      · exact ⟨1, ⟨fun z => absurd z e8, fun z => absurd z e10, fun _ => rfl, fun _ _ z => absurd hR z⟩, by decide⟩
      · exact ⟨4, ⟨fun z => absurd z e8, fun z => absurd z e10, fun z => absurd z hR, fun _ _ _ => rfl⟩, by decide⟩
theorem qz_01 : (0 : Int32) + 1 = 1 := by decide
theorem qz_resume {post : Int32 → St2 → Prop} {x m b q : Int32} (h1 : a1 0 = x) (h2 : a2 0 = m) (h3 : a3 0 = b) (h5 : ∀ j, a5 j = 0)
    (hx : ¬ x < 0) (hx' : x ≤ 10) (h8 : x ≠ 8) (hm : vp_in m 4) (hb : ¬ x < 1 → ¬ 4 < x → vp_in b 4)
    (hq : (q = 1 ∧ qz_R x b) ∨ (q = 2 ∧ ¬ qz_R x b))
    (H : ∀ (lv at' ov : Int32) (c5 c6 c7 : Nat → Int32), qz_K x b lv at' ov → post 1 (g0, 1, lv, at', ov, 1, g6, g7, g8, g9, g10, a1, a2, a3, a4, c5, c6, c7)) :
    wpX_resume post (g0, 1, 0, 0, 0, 0, g6, g7, g8, g9, g10, a1, a2, a3, a4, a5, a6, a7) q := by
  have h11 : ¬ a1 0 = 11 := by
    intro z
    rw [h1] at z
    rw [z] at hx'
    exact absurd hx' (by decide)
  have hq0 : ¬ q ≤ 0 := by
    rcases hq with ⟨rfl, _⟩ | ⟨rfl, _⟩
    · decide
    · decide
  have S2 : ∀ (lv at' ov : Int32) (c5 c6 c7 : Nat → Int32), qz_K x b lv at' ov → wX_resume_4 post q (0 + 1) 1 1 g0 1 lv at' ov 1 g6 g7 g8 g9 g10 a1 a2 a3 a4 c5 c6 c7 := by
    intro lv at' ov c5 c6 c7 hK
    have F := H lv at' ov c5 c6 c7 hK
    rcases hq with ⟨rfl, hR⟩ | ⟨rfl, hR⟩
    · exact br_t (by decide) F
    · by_cases e : x = 10
      · have ho := hK.2.1 e
        subst ho
        exact br_f (by decide) (br_f (by decide) F)
      · obtain ⟨ho, ha⟩ := hK.2.2 hR e
        subst ho
        exact br_f (by decide) (br_t rfl (qz_in0 ha (br_t rfl F)))
  exact ⟨0 + 1 + 1, br_f hq0 (br_t rfl (qz_in1 (br_f (by decide) ⟨qz_v0 20 (by omega) (by omega), br_f h11 (qz_stuck0 h1 (fun _ => by decide) h8 (br_t rfl (qz_carry h1 h2 h3 h5 hx hx' h8 hm hb (fun lv at' ov c5 c6 c7 hK => nm_r qz_01 (nm_r qz_01 (nm_r qz_01 (S2 lv at' ov c5 c6 c7 hK)))))))⟩)))⟩
theorem qz_plant {post : St2 → Prop} (h : post (g0, 1, g2, g3, g4, g5, g6, g7, g8, g9, g10, a1, a2, a3, a4, a5, a6, a7)) : wpX_plant post (g0, 1, g2, g3, g4, g5, g6, g7, g8, g9, g10, a1, a2, a3, a4, a5, a6, a7) 0 :=
  ⟨0 + 1 + 1, br_f (by decide) (br_t (by decide) (nm_r qz_01 (br_t (by decide) h)))⟩
theorem qz_lift {post : St2 → Prop} (h : post (0, 1, g2, g3, g4, g5, g6, g7, g8, g9, g10, a1, a2, a3, a4, a5, a6, a7)) : wpX_lift post (0, 1, g2, g3, g4, g5, g6, g7, g8, g9, g10, a1, a2, a3, a4, a5, a6, a7) :=
  ⟨0 + 1 + 1, br_f (by decide) (br_t (by decide) (nm_r qz_01 (br_t (by decide) h)))⟩
theorem qz_off {post : Int32 → St2 → Prop} {x m b : Int32} (h1 : a1 0 = x) (h2 : a2 0 = m) (h3 : a3 0 = b) (h5 : ∀ j, a5 j = 0)
    (hx : ¬ x < 0) (hx' : x ≤ 10) (h8 : x ≠ 8) (hm : vp_in m 4) (hb : ¬ x < 1 → ¬ 4 < x → vp_in b 4)
    (H : ∀ (lv at' ov : Int32) (c5 c6 c7 : Nat → Int32), qz_K x b lv at' ov → post 1 (0, 1, lv, at', ov, 1, g6, g7, g8, g9, g10, a1, a2, a3, a4, c5, c6, c7)) :
    wpX_stepOff post (0, 1, 0, 0, 0, 0, g6, g7, g8, g9, g10, a1, a2, a3, a4, a5, a6, a7) := by
  unfold wpX_stepOff
  refine qz_succ h1 h2 h3 h5 h8 hm (fun hR => ?_) (fun hR => ?_)
  · exact br_f (by decide) (qz_resume h1 h2 h3 h5 hx hx' h8 hm hb (Or.inl ⟨rfl, hR⟩) (fun lv at' ov c5 c6 c7 hK => H lv at' ov c5 c6 c7 hK))
  · exact br_t (by decide) (qz_plant (qz_resume h1 h2 h3 h5 hx hx' h8 hm hb (Or.inr ⟨rfl, hR⟩) (fun lv at' ov c5 c6 c7 hK => qz_lift (H lv at' ov c5 c6 c7 hK))))
theorem qz_run {post : Int32 → St2 → Prop} {x m b : Int32} (h1 : a1 0 = x) (h2 : a2 0 = m) (h3 : a3 0 = b) (h5 : ∀ j, a5 j = 0)
    (hx : ¬ x < 0) (hx' : x ≤ 10) (hm : vp_in m 4) (hb : ¬ x < 1 → ¬ 4 < x → vp_in b 4)
    (H : ∀ (w c lv at' ov : Int32) (c5 c6 c7 : Nat → Int32), qz_W x b w → qz_C x c → post w (0, 1, lv, at', ov, c, g6, w, 1, g9, g10, a1, a2, a3, a4, c5, c6, c7)) :
    wpX_run post (0, 1, 0, 0, 0, 0, g6, 0, 1, g9, g10, a1, a2, a3, a4, a5, a6, a7) 0 := by
  obtain ⟨w, hw, hw0⟩ := qz_Wex x b
  refine br_t (by decide) (qz_j0 h1 (fun e => ⟨0 + 1, ?_⟩) (fun h8 => ⟨0 + 1 + 1, ?_⟩))
  · have e5 := hw.1 e
    subst e5
    exact br_f (by decide) (br_f (by decide) (H _ _ _ _ _ _ _ _ hw ⟨fun _ => rfl, fun z => absurd e z⟩))
  · refine br_f (by decide) (br_t rfl (qz_off h1 h2 h3 h5 hx hx' h8 hm hb (fun lv at' ov c5 c6 c7 hK => nm_r qz_01 (qz_j1 h1 h8 hK hw (br_f hw0 (nm_r qz_01 ?_))))))
    exact br_f (by decide) (br_f hw0 (H _ _ _ _ _ _ _ _ hw ⟨fun z => absurd z h8, fun _ => rfl⟩))
theorem qz_step {post : Int32 → St2 → Prop} {x m b : Int32} (h1 : a1 0 = x) (h2 : a2 0 = m) (h3 : a3 0 = b) (h5 : ∀ j, a5 j = 0)
    (hx : ¬ x < 0) (hx' : x ≤ 10) (hm : vp_in m 4) (hb : ¬ x < 1 → ¬ 4 < x → vp_in b 4)
    (H : ∀ (w c lv at' ov : Int32) (c5 c6 c7 : Nat → Int32), qz_W x b w → qz_C x c → post w (0, 1, lv, at', ov, c, g6, w, 1, g9, g10, a1, a2, a3, a4, c5, c6, c7)) :
    wpX_step post (0, 1, 0, 0, 0, 0, g6, 0, g8, g9, g10, a1, a2, a3, a4, a5, a6, a7) := by
  unfold wpX_step
  exact qz_run h1 h2 h3 h5 hx hx' hm hb (fun w c lv at' ov c5 c6 c7 hw hc => H w c lv at' ov c5 c6 c7 hw hc)
/-- no instruction: the step is lost at once -/
theorem qz_step0 {post : Int32 → St2 → Prop} (H : post 4 (g0, 0, g2, g3, 0, g5, g6, 4, 1, g9, g10, a1, a2, a3, a4, a5, a6, a7)) :
    wpX_step post (g0, 0, g2, g3, 0, g5, g6, 0, g8, g9, g10, a1, a2, a3, a4, a5, a6, a7) := by
  unfold wpX_step
  exact br_t (by decide) (qz_j00 ⟨0 + 1, br_f (by decide) (br_f (by decide) H)⟩)
end
end
section
section
variable {g0 g1 g2 g3 g4 g5 g6 g7 g8 g9 g10 : Int32} {a1 a2 a3 a4 a5 a6 a7 : Nat → Int32}
/-- emit's two refusals -/
def qz_B2 (x : Int32) : Prop := x < 0 ∨ ¬ x ≤ 10
def qz_B3 (x m b : Int32) : Prop := m < 0 ∨ 3 < m ∨ (¬ x < 1 ∧ ¬ 4 < x ∧ (b < 0 ∨ ¬ b ≤ 3))
theorem qz_8x {x : Int32} (h : ¬ x < 0) (h' : x ≤ 10) : x.toInt8.toInt32 = x := by
  rcases qz_11 h h' with rfl | rfl | rfl | rfl | rfl | rfl | rfl | rfl | rfl | rfl | rfl
  all_goals decide
theorem qz_le10 {m : Int32} (h : ¬ 3 < m) : m ≤ 3 := Int32.not_lt.mp h
theorem qz_8m {m : Int32} (h : ¬ m < 0) (h' : m ≤ 3) : m.toInt8.toInt32 = m := by
  rcases qz_4 h h' with rfl | rfl | rfl | rfl
  all_goals decide
theorem qz_emit {post : Int32 → St2 → Prop} {x m b : Int32}
    (H2 : qz_B2 x → post (-2) (g0, 0, g2, g3, g4, g5, g6, g7, g8, g9, g10, a1, a2, a3, a4, a5, a6, a7))
    (H3 : ¬ qz_B2 x → qz_B3 x m b → post (-3) (g0, 0, g2, g3, g4, g5, g6, g7, g8, g9, g10, a1, a2, a3, a4, a5, a6, a7))
    (H0 : ¬ qz_B2 x → ¬ qz_B3 x m b → post 0 (g0, 1, g2, g3, g4, g5, g6, g7, g8, g9, g10, upd a1 0 x, upd a2 0 m, upd a3 0 b, a4, a5, a6, a7)) :
    wpX_emit post (g0, 0, g2, g3, g4, g5, g6, g7, g8, g9, g10, a1, a2, a3, a4, a5, a6, a7) x m b := by
  refine br_t (by decide) (br_c (fun z => H2 (Or.inl z)) (fun z0 => br_c (fun z1 => ?_) (fun z => H2 (Or.inr z))))
  have N2 : ¬ qz_B2 x := fun t => t.elim z0 (fun t => t z1)
  have V := qz_v0 20 (by omega) (by omega)
  have E67 : ¬ qz_B3 x m b → wX_emit_67 post x m b g0 0 g2 g3 g4 g5 g6 g7 g8 g9 g10 a1 a2 a3 a4 a5 a6 a7 := by
    intro N3
    have m0 : ¬ m < 0 := fun t => N3 (Or.inl t)
    have m3 : m ≤ 3 := qz_le10 (fun t => N3 (Or.inr (Or.inl t)))
    have F := H0 N2 N3
    have e1 : upd a1 (0 : Int32).toNatClampNeg x.toInt8.toInt32 = upd a1 0 x := by rw [sb_cl0, qz_8x z0 z1]
    have e2 : upd a2 (0 : Int32).toNatClampNeg m.toInt8.toInt32 = upd a2 0 m := by rw [sb_cl0, qz_8m m0 m3]
    have e3 : upd a3 (0 : Int32).toNatClampNeg b = upd a3 0 b := by rw [sb_cl0]
    have e4 : (1 : Int32) - 1 = 0 := by decide
    rw [← e4] at F
    exact ⟨V, nm_r e1 ⟨V, nm_r e2 ⟨V, nm_r e3 (nm_r qz_01 F)⟩⟩⟩
  have E39 : ∀ z : Int32, (z = 0 → x < 1 ∨ 4 < x) → (¬ z = 0 → ¬ x < 1 ∧ ¬ 4 < x) → wX_emit_39 post x m b z g0 0 g2 g3 g4 g5 g6 g7 g8 g9 g10 a1 a2 a3 a4 a5 a6 a7 := by
    intro z ha hb
    refine br_c (fun c => H3 N2 (Or.inl c)) (fun c1 => br_c (fun c => H3 N2 (Or.inr (Or.inl c))) (fun c2 => br_c (fun c => E67 (fun t => ?_)) (fun c3 => br_c (fun c => H3 N2 (Or.inr (Or.inr ⟨(hb c3).1, (hb c3).2, Or.inl c⟩))) (fun c4 => br_c (fun c => E67 (fun t => ?_)) (fun c => H3 N2 (Or.inr (Or.inr ⟨(hb c3).1, (hb c3).2, Or.inr c⟩)))))))
    · rcases t with t | t | ⟨t, t', _⟩
      · exact c1 t
      · exact c2 t
      · exact (ha c).elim t t'
    · rcases t with t | t | ⟨_, _, t | t⟩
      · exact c1 t
      · exact c2 t
      · exact c4 t
      · exact t c
  exact br_c (fun c => E39 0 (fun _ => Or.inl c) (fun t => absurd rfl t)) (fun c1 => br_c (fun c => E39 0 (fun _ => Or.inr c) (fun t => absurd rfl t)) (fun c4 => E39 1 (fun t => absurd t (by decide)) (fun _ => ⟨c1, c4⟩)))
theorem qz_code0 {post : Int32 → Prop} {p : Int32} (h : post (-1)) : wpX_codeAt post (g0, 0, g2, g3, g4, g5, g6, g7, g8, g9, g10, a1, a2, a3, a4, a5, a6, a7) p := by
  unfold wpX_codeAt
  exact qz_in00 (br_t rfl h)
theorem qz_code1 {post : Int32 → Prop} {p : Int32} (h : ∀ r, (p = 0 → r = a1 0 + 16 * a2 0) → (p ≠ 0 → r = -1) → post r) : wpX_codeAt post (g0, 1, g2, g3, g4, g5, g6, g7, g8, g9, g10, a1, a2, a3, a4, a5, a6, a7) p := by
  unfold wpX_codeAt
  by_cases e : p = 0
  · subst e
    have V := qz_v0 20 (by omega) (by omega)
    have F := h _ (fun _ => rfl) (fun z => absurd rfl z)
    exact qz_in1 (br_f (by decide) ⟨V, V, F⟩)
  · exact qz_in0 e (br_t rfl (h _ (fun z => absurd z e) (fun _ => rfl)))
/-- what breakAt answers, and the marks behind it -/
def qz_I (q r bits : Int32) : Prop := (q < 0 ∨ 19 < q → r = 0 ∧ bits = 0) ∧ (¬ q < 0 → ¬ 19 < q → r = 1 ∧ bits = (1 : Int32) <<< (q &&& 31))
theorem qz_19 {q : Int32} : q < 20 ↔ ¬ 19 < q := by
  rw [Int32.lt_iff_toInt_lt, Int32.lt_iff_toInt_lt]
  have e1 : (20 : Int32).toInt = 20 := by decide
  have e2 : (19 : Int32).toInt = 19 := by decide
  rw [e1, e2]
  omega
theorem qz_brk {post : Int32 → St2 → Prop} {q : Int32} (H : ∀ r bits, qz_I q r bits → post r (g0, g1, g2, g3, g4, g5, bits, g7, g8, g9, g10, a1, a2, a3, a4, a5, a6, a7)) :
    wpX_breakAt post (g0, g1, g2, g3, g4, g5, 0, g7, g8, g9, g10, a1, a2, a3, a4, a5, a6, a7) q 1 := by
  have e0 : (0 : Int32) ||| ((1 : Int32) <<< (q &&& 31)) = (1 : Int32) <<< (q &&& 31) := Int32.zero_or
  refine br_c (fun c => H _ _ ⟨fun _ => ⟨rfl, rfl⟩, fun z => absurd c z⟩) (fun c0 => br_c (fun c => br_f (by decide) (nm_r e0 (H _ _ ⟨fun z => ?_, fun _ _ => ⟨rfl, rfl⟩⟩))) (fun c => H _ _ ⟨fun _ => ⟨rfl, rfl⟩, fun _ z => absurd (qz_19.mpr z) c⟩))
  exact absurd z (fun t => t.elim c0 (qz_19.mp c))
theorem qz_bps {post : Int32 → Prop} (h : post g6) : wpX_breakpoints post (g0, g1, g2, g3, g4, g5, g6, g7, g8, g9, g10, a1, a2, a3, a4, a5, a6, a7) := h
theorem qz_sts {post : Int32 → Prop} (h : post g5) : wpX_steps post (g0, g1, g2, g3, g4, g5, g6, g7, g8, g9, g10, a1, a2, a3, a4, a5, a6, a7) := h
end
end
section
section
variable {post : Int32 → St0 → Prop} {mc ms kc ks : Nat} {x0 x1 x2 x3 x4 x6 x7 x8 x9 x10 x11 x12 x13 x14 x16 z0 z1 : Int32}
theorem qz_269 (hp : post 1 ()) (hz : z1 = z0) (h10 : x10 = x16) (c0 : x14 = 0 → x11 = 0) (c1 : ¬ x14 = 0 → qz_C x0 x11) : wL_lawOf_269 post mc ms x0 x10 x11 x14 x16 z0 z1 kc ks :=
  br_t hz (br_t h10 (br_c (fun c => br_t (c0 c) hp) (fun c => br_c (fun e => br_t ((c1 c).1 e) hp) (fun e => br_t ((c1 c).2 e) hp))))
theorem qz_244 (hp : post 1 ()) (hz : z1 = z0) (h8 : x8 = x13) (h9 : x13 = 0 → x9 = 0) (h9' : ¬ x13 = 0 → x9 = (1 : Int32) <<< (x4 &&& 31)) (h10 : x10 = x16) (c0 : x14 = 0 → x11 = 0) (c1 : ¬ x14 = 0 → qz_C x0 x11) :
    wL_lawOf_244 post mc ms x0 x4 x8 x9 x10 x11 x13 x14 x16 z0 z1 kc ks :=
  br_t hz (br_t h8 (br_c (fun c => qz_269 hp (h9 c) h10 c0 c1) (fun c => qz_269 hp (h9' c) h10 c0 c1)))
theorem qz_214 (hp : post 1 ()) (h6 : x6 = x12) (h7 : ¬ x14 = 0 → x3 = 0 → x7 = x0 + 16 * x1) (h7' : x14 = 0 ∨ x3 ≠ 0 → x7 = -1) (h8 : x8 = x13) (h9 : x13 = 0 → x9 = 0) (h9' : ¬ x13 = 0 → x9 = (1 : Int32) <<< (x4 &&& 31)) (h10 : x10 = z0) (c0 : x14 = 0 → x11 = 0) (c1 : ¬ x14 = 0 → qz_C x0 x11) :
    wL_lawOf_214 post mc ms x0 x1 x3 x4 x6 x7 x8 x9 x10 x11 x12 x13 x14 z0 kc ks :=
  br_t h6 (br_c (fun c => qz_244 hp (h7' (Or.inl c)) h8 h9 h9' h10 c0 c1) (fun c => br_c (fun c3 => qz_244 hp (h7 c c3) h8 h9 h9' h10 c0 c1) (fun c3 => qz_244 hp (h7' (Or.inr c3)) h8 h9 h9' h10 c0 c1)))
theorem qz_172 (Q : ∀ z, x10 = z → wL_lawOf_214 post mc ms x0 x1 x3 x4 x6 x7 x8 x9 x10 x11 x12 x13 x14 z kc ks) (w0 : x14 = 0 → x10 = 4) (w1 : ¬ x14 = 0 → qz_W x0 x2 x10) (hz : z0 = 0 → ¬ qz_R x0 x2) (hz' : ¬ z0 = 0 → qz_R x0 x2) :
    wL_lawOf_172 post mc ms x0 x1 x3 x4 x6 x7 x8 x9 x10 x11 x12 x13 x14 z0 kc ks :=
  br_c (fun c => Q 4 (w0 c)) (fun c => br_c (fun e => Q 5 ((w1 c).1 e)) (fun n8 => br_c (fun e => Q 6 ((w1 c).2.1 e)) (fun n10 => br_c (fun e => Q 4 ((w1 c).2.2.2 n8 n10 (hz e))) (fun e => Q 1 ((w1 c).2.2.1 (hz' e))))))
theorem qz_161 (Q : ∀ z, x10 = z → wL_lawOf_214 post mc ms x0 x1 x3 x4 x6 x7 x8 x9 x10 x11 x12 x13 x14 z kc ks) (w0 : x14 = 0 → x10 = 4) (w1 : ¬ x14 = 0 → qz_W x0 x2 x10) (hn : ¬ ((x0 = 5 ∨ x0 = 6 ∨ x0 = 7) ∧ x2 = 0)) :
    wL_lawOf_161 post mc ms x0 x1 x3 x4 x6 x7 x8 x9 x10 x11 x12 x13 x14 kc ks :=
  br_c (fun e => qz_172 Q w0 w1 (fun t => absurd t (by decide)) (fun _ => Or.inr e)) (fun e => qz_172 Q w0 w1 (fun _ t => t.elim hn e) (fun t => absurd rfl t))
theorem qz_157 (Q : ∀ z, x10 = z → wL_lawOf_214 post mc ms x0 x1 x3 x4 x6 x7 x8 x9 x10 x11 x12 x13 x14 z kc ks) (w0 : x14 = 0 → x10 = 4) (w1 : ¬ x14 = 0 → qz_W x0 x2 x10) (hx : x0 = 5 ∨ x0 = 6 ∨ x0 = 7) :
    wL_lawOf_157 post mc ms x0 x1 x2 x3 x4 x6 x7 x8 x9 x10 x11 x12 x13 x14 kc ks :=
  br_c (fun e => qz_172 Q w0 w1 (fun t => absurd t (by decide)) (fun _ => Or.inl ⟨hx, e⟩)) (fun e => qz_161 Q w0 w1 (fun t => e t.2))
theorem qz_138 (Q : ∀ z, x10 = z → wL_lawOf_214 post mc ms x0 x1 x3 x4 x6 x7 x8 x9 x10 x11 x12 x13 x14 z kc ks) (w0 : x14 = 0 → x10 = 4) (w1 : ¬ x14 = 0 → qz_W x0 x2 x10) :
    wL_lawOf_138 post mc ms x0 x1 x2 x3 x4 x6 x7 x8 x9 x10 x11 x12 x13 x14 kc ks :=
  br_c (fun e => qz_157 Q w0 w1 (Or.inl e)) (fun n5 => br_c (fun e => qz_157 Q w0 w1 (Or.inr (Or.inl e))) (fun n6 => br_c (fun e => qz_157 Q w0 w1 (Or.inr (Or.inr e))) (fun n7 => qz_161 Q w0 w1 (fun t => t.1.elim n5 (fun t => t.elim n6 n7)))))
/-- everything that the law checks -/
def qz_A (x0 x1 x2 x3 x4 x6 x7 x8 x9 x10 x11 z0 : Int32) : Prop := x6 = z0 ∧ (z0 = 0 → x3 = 0 → x7 = x0 + 16 * x1) ∧ (z0 ≠ 0 ∨ x3 ≠ 0 → x7 = -1) ∧ qz_I x4 x8 x9 ∧ (z0 ≠ 0 → x10 = 4 ∧ x11 = 0) ∧ (z0 = 0 → qz_W x0 x2 x10 ∧ qz_C x0 x11)
theorem qz_126 (hp : post 1 ()) (h : qz_A x0 x1 x2 x3 x4 x6 x7 x8 x9 x10 x11 x12) (h8 : x8 = z0) (h9 : z0 = 0 → x9 = 0) (h9' : ¬ z0 = 0 → x9 = (1 : Int32) <<< (x4 &&& 31)) :
    wL_lawOf_126 post mc ms x0 x1 x2 x3 x4 x6 x7 x8 x9 x10 x11 x12 z0 kc ks := by
  obtain ⟨h6, h7, h7', _, hb, hg⟩ := h
  refine br_c (fun c => ?_) (fun c => ?_)
  · refine qz_138 (fun z hz => qz_214 hp h6 (fun _ => h7 c) (fun t => ?_) h8 h9 h9' hz (fun t => absurd t (by decide)) (fun _ => (hg c).2)) (fun t => absurd t (by decide)) (fun _ => (hg c).1)
    exact t.elim (fun t => absurd t (by decide)) (fun t => h7' (Or.inr t))
  · exact qz_138 (fun z hz => qz_214 hp h6 (fun t => absurd rfl t) (fun _ => h7' (Or.inl c)) h8 h9 h9' hz (fun _ => (hb c).2) (fun t => absurd rfl t)) (fun _ => (hb c).1) (fun t => absurd rfl t)
theorem qz_107 (hp : post 1 ()) (h : qz_A x0 x1 x2 x3 x4 x6 x7 x8 x9 x10 x11 z0) : wL_lawOf_107 post mc ms x0 x1 x2 x3 x4 x6 x7 x8 x9 x10 x11 z0 kc ks := by
  obtain ⟨i0, i1⟩ := h.2.2.2.1
  have B : (x4 < 0 ∨ 19 < x4) → wL_lawOf_126 post mc ms x0 x1 x2 x3 x4 x6 x7 x8 x9 x10 x11 z0 0 kc ks := fun c => qz_126 hp h (i0 c).1 (fun _ => (i0 c).2) (fun t => absurd rfl t)
  exact br_c (fun c => B (Or.inl c)) (fun n0 => br_c (fun c => B (Or.inr c)) (fun n1 => qz_126 hp h (i1 n0 n1).1 (fun t => absurd t (by decide)) (fun _ => (i1 n0 n1).2)))
theorem qz_sel {p0 p1 p2 : Int32} {A B C : Prop} (h2 : qz_B2 p0 → A) (h3 : ¬ qz_B2 p0 → qz_B3 p0 p1 p2 → B) (h0 : ¬ qz_B2 p0 → ¬ qz_B3 p0 p1 p2 → C) :
    (p0 < 0 → A) ∧ (¬ p0 < 0 → (p0 ≤ 10 → (p1 < 0 → B) ∧ (¬ p1 < 0 → (3 < p1 → B) ∧ (¬ 3 < p1 → (p0 < 1 → C) ∧ (¬ p0 < 1 → (4 < p0 → C) ∧ (¬ 4 < p0 → (p2 < 0 → B) ∧ (¬ p2 < 0 → (p2 ≤ 3 → C) ∧ (¬ p2 ≤ 3 → B))))))) ∧ (¬ p0 ≤ 10 → A)) := by
  refine br_c (fun z => h2 (Or.inl z)) (fun z0 => br_c (fun z1 => ?_) (fun z => h2 (Or.inr z)))
  have N2 : ¬ qz_B2 p0 := fun t => t.elim z0 (fun t => t z1)
  refine br_c (fun c => h3 N2 (Or.inl c)) (fun c1 => br_c (fun c => h3 N2 (Or.inr (Or.inl c))) (fun c2 => br_c (fun c => h0 N2 (fun t => ?_)) (fun c3 => br_c (fun c => h0 N2 (fun t => ?_)) (fun c4 => br_c (fun c => h3 N2 (Or.inr (Or.inr ⟨c3, c4, Or.inl c⟩))) (fun c5 => br_c (fun c => h0 N2 (fun t => ?_)) (fun c => h3 N2 (Or.inr (Or.inr ⟨c3, c4, Or.inr c⟩))))))))
  · exact t.elim c1 (fun t => t.elim c2 (fun t => t.1 c))
  · exact t.elim c1 (fun t => t.elim c2 (fun t => t.2.1 c))
  · exact t.elim c1 (fun t => t.elim c2 (fun t => t.2.2.elim c5 (fun t => t c)))
end
theorem qz_Abad {p0 p1 p2 p3 p4 r bits z : Int32} (hz : z ≠ 0) (hI : qz_I p4 r bits) : qz_A p0 p1 p2 p3 p4 z (-1) r bits 4 0 z :=
  ⟨rfl, fun t => absurd t hz, fun _ => rfl, hI, fun _ => ⟨rfl, rfl⟩, fun t => absurd t hz⟩
theorem qz_lawOf {post : Int32 → St0 → Prop} (hp : post 1 ()) (p0 p1 p2 p3 p4 : Int32) : wpL_lawOf post 8 116 () p0 p1 p2 p3 p4 := by
  refine ⟨by omega, by omega, 7, 98, by omega, by omega, ?_⟩
  refine ⟨by omega, by omega, by omega, by omega, by omega, by omega, by omega, by omega, by omega, by omega, by omega, by omega, by omega, by omega, ?_⟩
  refine qz_emit (fun B2 => ?_) (fun N2 B3 => ?_) (fun N2 N3 => ?_)
  · refine qz_code0 (qz_brk (fun r bits hI => qz_bps (qz_step0 (qz_sts ?_))))
    exact qz_sel (fun _ => qz_107 hp (qz_Abad (by decide) hI)) (fun t => absurd B2 t) (fun t => absurd B2 t)
  · refine qz_code0 (qz_brk (fun r bits hI => qz_bps (qz_step0 (qz_sts ?_))))
    exact qz_sel (fun t => absurd t N2) (fun _ _ => qz_107 hp (qz_Abad (by decide) hI)) (fun _ t => absurd B3 t)
  · have h0 : ¬ p0 < 0 := fun t => N2 (Or.inl t)
    have h10 : p0 ≤ 10 := Int32.not_lt.mp (fun t => N2 (Or.inr (Int32.not_le.mpr t)))
    have m0 : ¬ p1 < 0 := fun t => N3 (Or.inl t)
    have m3 : p1 ≤ 3 := qz_le10 (fun t => N3 (Or.inr (Or.inl t)))
    have hb : ¬ p0 < 1 → ¬ 4 < p0 → vp_in p2 4 := fun c c' => qz_i4 (fun t => N3 (Or.inr (Or.inr ⟨c, c', Or.inl t⟩))) (Int32.not_lt.mp (fun t => N3 (Or.inr (Or.inr ⟨c, c', Or.inr (Int32.not_le.mpr t)⟩))))
    refine qz_code1 (fun r7 e7 e7' => qz_brk (fun r bits hI => qz_bps (qz_step (x := p0) (m := p1) (b := p2) pk_us pk_us pk_us (fun _ => rfl) h0 h10 (qz_i4 m0 m3) hb (fun w c lv at' ov c5 c6 c7 hw hc => qz_sts ?_))))
    rw [pk_us, pk_us] at e7
    exact qz_sel (fun t => absurd t N2) (fun _ t => absurd t N3) (fun _ _ => qz_107 hp ⟨rfl, fun _ => e7, fun t => t.elim (fun t => absurd rfl t) e7', hI, fun t => absurd rfl t, fun _ => ⟨hw, hc⟩⟩)
theorem qz_cell {post : Int32 → Prop} {L : Nat} {xs : Nat → Int32} {u : St0} (k : Nat) (hL : L ≤ 5) (hk : k < 5) (h : ∀ r, post r) : wpL_cellAt post L xs u (nI k) :=
  pk_le L k (fun _ => h _) (fun z => ⟨pk_in k L z, h _⟩)
theorem i_vc (xs : Nat → Int32) (L : Nat) (hL : L ≤ 5) : wpL_law (fun r => r = 1) L xs :=
  qz_cell 0 hL (by omega) (fun r1 => qz_cell 1 hL (by omega) (fun r2 => qz_cell 2 hL (by omega) (fun r3 => qz_cell 3 hL (by omega) (fun r4 => qz_cell 4 hL (by omega) (fun r5 => ⟨8, 116, by omega, by omega, qz_lawOf rfl r1 r2 r3 r4 r5⟩)))))
end
