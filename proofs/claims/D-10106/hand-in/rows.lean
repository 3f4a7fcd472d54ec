section
/-- a replica's number -/
def sx_R (x : Int32) : Prop := ¬ x < 0 ∧ ¬ 3 ≤ x
theorem sx_ex {x : Int32} (h : sx_R x) : ∃ j : Nat, j < 3 ∧ x = nI j := by
  rcases pk_ix x (n := 3) (by decide) with z | z | z
  · exact absurd z h.1
  · exact absurd z h.2
  · exact z
theorem sx_of {j : Nat} (h : j < 3) : sx_R (nI j) := ⟨nI_pos (by omega), nI_ge (b := 3) h (by decide)⟩
theorem sx_2 (x : Int32) : 2 < x ↔ 3 ≤ x := by
  have h2 : (2 : Int32).toInt = 2 := by decide
  have h3 : (3 : Int32).toInt = 3 := by decide
  rw [Int32.lt_iff_toInt_lt, Int32.le_iff_toInt_le, h2, h3]
  omega
theorem sx_p {p : Int32} (h : ¬ p < 0) (h' : p ≤ 0) : p = 0 := by
  have h0 : (0 : Int32).toInt = 0 := by decide
  rw [Int32.lt_iff_toInt_lt, h0] at h
  rw [Int32.le_iff_toInt_le, h0] at h'
  exact Int32.toInt_inj.mp (by omega)
theorem sx_p' {p : Int32} (h : ¬ p < 0) : ¬ p < 0 ∧ 0 ≤ p := by
  refine ⟨h, ?_⟩
  have h0 : (0 : Int32).toInt = 0 := by decide
  rw [Int32.lt_iff_toInt_lt, h0] at h
  rw [Int32.le_iff_toInt_le, h0]
  omega
theorem sx_ad (j k : Nat) : nI j * 31 + nI k = nI (j * 31 + k) := by
  rw [← nI_add, ← pk_mul]
  rfl
theorem sx_c30 {j : Nat} (hj : j < 3) : (nI j * 31 + 30).toNatClampNeg = j * 31 + 30 := pk_cl (j * 31 + 30) (sx_ad j 30) (by omega)
theorem sx_c0 {j : Nat} (hj : j < 3) : (nI j * 31 + 0).toNatClampNeg = j * 31 := pk_cl (j * 31) (sx_ad j 0) (by omega)
theorem sx_rep {post : Int32 → Prop} {x : Int32} (hf : ¬ sx_R x → post 0) (ht : sx_R x → post 1) : wpX_isReplica post () x :=
  br_c (fun a => hf (fun h => h.1 a)) (fun a => br_c (fun b => hf (fun h => h.2 b)) (fun b => ht ⟨a, b⟩))
/-- the length of an empty replica -/
theorem sx_len0 {post : Int32 → Prop} {c x : Int32} {a1 a2 a3 a4 a5 a6 a7 a8 a9 : Nat → Int32} (h9 : ∀ j, j < 3 → a9 (j * 31 + 30) = 30) (hf : ¬ sx_R x → post (-1)) (ht : sx_R x → post 0) :
    wpX_length post (c, a1, a2, a3, a4, a5, a6, a7, a8, a9) x := by
  unfold wpX_length
  dsimp only
  refine sx_rep (fun h => br_t rfl (hf h)) (fun h => br_f (by decide) ?_)
  obtain ⟨j, hj, rfl⟩ := sx_ex h
  refine ⟨pk_in (j * 31 + 30) 93 (by omega) (sx_ad j 30), nm_r (e' := 30) ?_ ⟨1, br_f (by decide) (br_t rfl (ht h))⟩⟩
  rw [sx_c30 hj]
  exact h9 j hj
/-- the length of a replica with the one element 0, not deleted -/
theorem sx_len1 {post : Int32 → Prop} {c : Int32} {a1 a2 a3 a4 a5 a6 a7 a8 a9 : Nat → Int32} {j : Nat} (hj : j < 3) (h7 : a7 j = 0) (h9 : a9 (j * 31 + 30) = 0) (h9' : a9 (j * 31) = 30) (ht : post 1) :
    wpX_length post (c, a1, a2, a3, a4, a5, a6, a7, a8, a9) (nI j) := by
  unfold wpX_length
  dsimp only
  refine sx_rep (fun h => absurd (sx_of hj) h) (fun h => br_f (by decide) ?_)
  refine ⟨pk_in (j * 31 + 30) 93 (by omega) (sx_ad j 30), nm_r (e' := 0) ?_ ⟨2, br_f (by decide) (br_f (by decide) ?_)⟩⟩
  · rw [sx_c30 hj]
    exact h9
  · refine ⟨vp_in_nI hj (by decide), br_t ?_ (br_f (by decide) (nm_r (e' := 1) (by decide) ⟨pk_in (j * 31 + 0) 93 (by omega) (sx_ad j 0), nm_r (e' := 30) ?_ (nm_r (e' := 1) (by decide) (br_f (by decide) (br_t rfl ht)))⟩))⟩
    · rw [nI_clamp (by omega), h7]
      decide
    · rw [sx_c0 hj]
      exact h9'
theorem sx_erase {post : Int32 → St2 → Prop} {c x p : Int32} {a1 a2 a3 a4 a5 a6 a7 a8 a9 : Nat → Int32} (h9 : ∀ j, j < 3 → a9 (j * 31 + 30) = 30) (H : post (-1) (c, a1, a2, a3, a4, a5, a6, a7, a8, a9)) :
    wpX_erase post (c, a1, a2, a3, a4, a5, a6, a7, a8, a9) x p := by
  unfold wpX_erase
  dsimp only
  exact sx_rep (fun _ => br_t rfl H) (fun h => br_f (by decide) (br_c (fun _ => H) (fun hp => sx_len0 h9 (fun h' => absurd h h') (fun _ => br_f hp H))))
theorem sx_learn {post : Int32 → St2 → Prop} {x y e : Int32} {a1 a2 a3 a4 a5 a6 a7 a8 a9 : Nat → Int32} (H : post (-1) (0, a1, a2, a3, a4, a5, a6, a7, a8, a9)) :
    wpX_learn post (0, a1, a2, a3, a4, a5, a6, a7, a8, a9) x y e := by
  unfold wpX_learn
  dsimp only
  exact sx_rep (fun _ => br_t rfl H) (fun _ => br_f (by decide) (sx_rep (fun _ => br_t rfl H) (fun _ => br_f (by decide) (br_c (fun _ => H) (fun _ => br_c (fun _ => H) (fun he => br_t (sx_p' he).2 H))))))
theorem sx_catch {post : Int32 → St2 → Prop} {x y : Int32} {a1 a2 a3 a4 a5 a6 a7 a8 a9 : Nat → Int32} (hf : ¬ (sx_R x ∧ sx_R y ∧ ¬ x = y) → post (-1) (0, a1, a2, a3, a4, a5, a6, a7, a8, a9)) (ht : sx_R x → sx_R y → ¬ x = y → post 0 (0, a1, a2, a3, a4, a5, a6, a7, a8, a9)) :
    wpX_catchUp post (0, a1, a2, a3, a4, a5, a6, a7, a8, a9) x y := by
  unfold wpX_catchUp
  dsimp only
  exact sx_rep (fun h => br_t rfl (hf (fun z => h z.1))) (fun h => br_f (by decide) (sx_rep (fun h' => br_t rfl (hf (fun z => h' z.2.1))) (fun h' => br_f (by decide) (br_c (fun e => hf (fun z => z.2.2 e)) (fun e => ⟨1, br_t (by decide) (ht h h' e)⟩)))))
/-- the first event, an element behind the head, is taken by a replica whose chain is empty -/
theorem sx_take {post : St2 → Prop} {c : Int32} {a1 a2 a3 a4 a5 a6 a7 a8 a9 : Nat → Int32} {j : Nat} (hj : j < 3) (h1 : 0 ≤ a1 0) (h2 : a2 0 = 30) (h3 : a3 0 = 1) (h8 : a8 j = 0) (h9 : a9 (j * 31 + 30) = 30)
    (H : ∀ a6' a8' a9' : Nat → Int32, a9' (j * 31 + 30) = 0 → a9' (j * 31) = 30 → post (c, a1, a2, a3, a4, a5, a6', a7, a8', a9')) :
    wpX_take post (c, a1, a2, a3, a4, a5, a6, a7, a8, a9) (nI j) 0 := by
  have i3 : vp_in (nI j) 3 := vp_in_nI hj (by decide)
  have i0 : vp_in (0 : Int32) 30 := vp_in_iff.mpr (by decide)
  unfold wpX_take
  dsimp only
  refine ⟨i3, i3, nm_e ⟨i0, br_t h1 ⟨i0, i3, br_f ?_ ⟨i0, i3, nm_e ?_⟩⟩⟩⟩
  · rw [nI_clamp (by omega), h8]
    show ¬ a3 0 ≤ 0
    rw [h3]
    decide
  unfold wX_take_66 wpX_integrate
  dsimp only
  refine ⟨i0, nm_r (e' := 30) h2 ⟨1, br_f (by decide) ⟨pk_in (j * 31 + 30) 93 (by omega) (sx_ad j 30), nm_r (e' := 30) ?_ (br_t rfl ?_)⟩⟩⟩
  · rw [sx_c30 hj]
    exact h9
  refine ⟨pk_in (j * 31 + 0) 93 (by omega) (sx_ad j 0), nm_e ⟨pk_in (j * 31 + 30) 93 (by omega) (sx_ad j 30), nm_e ?_⟩⟩
  rw [sx_c30 hj, sx_c0 hj]
  dsimp only
  refine H _ _ _ ?_ ?_
  · rw [pk_us]
    decide
  · rw [pk_un (by omega)]
    rw [pk_us]
    decide
theorem sx_b8 : ∀ k, k < 26 → (nI k).toInt8.toInt32 = nI k := by decide +kernel
/-- the first element is made at a replica whose chain is empty -/
theorem sx_make {post : Int32 → St2 → Prop} {a1 a2 a3 a4 a5 a6 a7 a8 a9 : Nat → Int32} {j k : Nat} (hj : j < 3) (hk : k < 26) (h8 : a8 j = 0) (h9 : a9 (j * 31 + 30) = 30)
    (H : ∀ b1 b2 b3 b4 b5 b6 b8 b9 : Nat → Int32, b9 (j * 31 + 30) = 0 → b9 (j * 31) = 30 → post 0 (1, b1, b2, b3, b4, b5, b6, a7, b8, b9)) :
    wpX_make post (0, a1, a2, a3, a4, a5, a6, a7, a8, a9) (nI j) (nI k) 30 := by
  have i3 : vp_in (nI j) 3 := vp_in_nI hj (by decide)
  have i0 : vp_in (0 : Int32) 30 := vp_in_iff.mpr (by decide)
  unfold wpX_make
  dsimp only
  refine ⟨i0, nm_e ⟨i0, nm_e ⟨i0, nm_e ⟨i3, i0, nm_e (br_t (nI_pos' (by omega)) ⟨i3, ?_⟩)⟩⟩⟩⟩
  unfold wX_make_68
  refine ⟨i0, nm_e (nm_r (e' := 1) (by decide) (sx_take hj ?_ ?_ ?_ h8 h9 (fun _ _ _ g g' => H _ _ _ _ _ _ _ _ g g')))⟩
  · show 0 ≤ upd a1 0 _ 0
    rw [pk_us, sx_b8 k hk]
    exact nI_pos' (by omega)
  · show upd a2 0 _ 0 = 30
    rw [pk_us]
    decide
  · show upd a3 0 _ 0 = 1
    rw [pk_us, nI_clamp (by omega), h8]
    decide
theorem sx_put {post : Int32 → St2 → Prop} {x p s : Int32} {a1 a2 a3 a4 a5 a6 a7 a8 a9 : Nat → Int32} (h8 : ∀ j, j < 3 → a8 j = 0) (h9 : ∀ j, j < 3 → a9 (j * 31 + 30) = 30)
    (hf : ¬ (sx_R x ∧ p = 0 ∧ ¬ s < 0 ∧ ¬ 25 < s) → post (-1) (0, a1, a2, a3, a4, a5, a6, a7, a8, a9))
    (ht : ∀ j, j < 3 → x = nI j → p = 0 → ¬ s < 0 → ¬ 25 < s → ∀ b1 b2 b3 b4 b5 b6 b8 b9 : Nat → Int32, b9 (j * 31 + 30) = 0 → b9 (j * 31) = 30 → post 0 (1, b1, b2, b3, b4, b5, b6, a7, b8, b9)) :
    wpX_put post (0, a1, a2, a3, a4, a5, a6, a7, a8, a9) x p s := by
  unfold wpX_put
  dsimp only
  refine sx_rep (fun h => br_t rfl (hf (fun z => h z.1))) (fun h => br_f (by decide) (br_c (fun g => hf (fun z => z.2.2.1 g)) (fun g => br_c (fun g' => hf (fun z => z.2.2.2 g')) (fun g' => br_c (fun q => hf (fun z => ?_)) (fun q => sx_len0 h9 (fun h' => absurd h h') (fun _ => br_c (fun q' => br_t (by decide) (br_t (sx_p q q') ?_)) (fun q' => hf (fun z => ?_))))))))
  · rw [z.2.1] at q
    exact absurd q (by decide)
  · obtain ⟨j, hj, rfl⟩ := sx_ex h
    rcases pk_ix s (n := 26) (by decide) with w | w | ⟨k, hk, rfl⟩
    · exact absurd w g
    · refine absurd ?_ g'
      have h25 : (25 : Int32).toInt = 25 := by decide
      have h26 : (nI 26).toInt = 26 := by decide
      rw [Int32.le_iff_toInt_le, h26] at w
      rw [Int32.lt_iff_toInt_lt, h25]
      omega
    · unfold wX_put_61
      exact sx_make hj hk (h8 j hj) (h9 j hj) (fun b1 b2 b3 b4 b5 b6 b8 b9 e e' => ht j hj rfl (sx_p q q') g g' b1 b2 b3 b4 b5 b6 b8 b9 e e')
  · rw [z.2.1] at q'
    exact absurd (by decide) q'
end
section
theorem sx_187a {mc ms kc ks : Nat} {x0 x11 : Int32} {a1 a2 a3 a4 a5 a6 a7 a8 a9 : Nat → Int32} (h9 : ∀ j, j < 3 → a9 (j * 31 + 30) = 30) (hf : ¬ sx_R x0 → -1 = x11) (ht : sx_R x0 → 0 = x11) :
    wL_lawOf_187 (fun r _ => r = 1) mc ms x0 x11 0 kc ks 0 a1 a2 a3 a4 a5 a6 a7 a8 a9 := by
  unfold wL_lawOf_187
  exact sx_len0 h9 (fun h => br_t (hf h) (br_t rfl rfl)) (fun h => br_t (ht h) (br_t rfl rfl))
theorem sx_187b {mc ms kc ks : Nat} {j : Nat} (hj : j < 3) {a1 a2 a3 a4 a5 a6 a7 a8 a9 : Nat → Int32} (h7 : a7 j = 0) (h9 : a9 (j * 31 + 30) = 0) (h9' : a9 (j * 31) = 30) :
    wL_lawOf_187 (fun r _ => r = 1) mc ms (nI j) 1 1 kc ks 1 a1 a2 a3 a4 a5 a6 a7 a8 a9 := by
  unfold wL_lawOf_187
  exact sx_len1 hj h7 h9 h9' (br_t rfl (br_t rfl rfl))
/-- what the law holds ahead of 'put': nothing was made -/
def sx_K (a7 a8 a9 : Nat → Int32) : Prop := (∀ j, j < 3 → a7 j = 0) ∧ (∀ j, j < 3 → a8 j = 0) ∧ (∀ j, j < 3 → a9 (j * 31 + 30) = 30)
theorem sx_139 {mc ms kc ks : Nat} {x0 x2 x3 x6 x9 z0 : Int32} {a1 a2 a3 a4 a5 a6 a7 a8 a9 : Nat → Int32} (k : sx_K a7 a8 a9) (h6 : x6 = 0 ↔ ¬ sx_R x0) (h9 : ¬ x9 = 0 ↔ sx_R x0 ∧ x2 = 0 ∧ ¬ x3 < 0 ∧ ¬ 25 < x3) (hz : x9 = 0 → -1 = z0) (hz' : ¬ x9 = 0 → 0 = z0) :
    wL_lawOf_139 (fun r _ => r = 1) mc ms x0 x2 x3 x6 x9 z0 kc ks 0 a1 a2 a3 a4 a5 a6 a7 a8 a9 := by
  unfold wL_lawOf_139
  refine sx_put k.2.1 k.2.2 (fun h => ?_) (fun j hj e e2 e3 e3' b1 b2 b3 b4 b5 b6 b8 b9 g g' => ?_)
  · have e9 : x9 = 0 := Classical.byContradiction (fun z => h (h9.mp z))
    refine br_t (hz e9) (br_c (fun e6 => ?_) (fun e6 => br_t e9 ?_))
    · exact br_t e9 (sx_187a k.2.2 (fun _ => rfl) (fun r => absurd r (h6.mp e6)))
    · exact br_t e9 (sx_187a k.2.2 (fun r => absurd (h6.mpr r) e6) (fun _ => rfl))
  · subst e
    have e9 : ¬ x9 = 0 := h9.mpr ⟨sx_of hj, e2, e3, e3'⟩
    exact br_t (hz' e9) (br_f (fun e6 => h6.mp e6 (sx_of hj)) (br_f e9 (br_f e9 (sx_187b hj (k.1 j hj) g g'))))
theorem sx_127 {mc ms kc ks : Nat} {x0 x2 x3 x6 x9 : Int32} {a1 a2 a3 a4 a5 a6 a7 a8 a9 : Nat → Int32} (k : sx_K a7 a8 a9) (h6 : x6 = 0 ↔ ¬ sx_R x0) (h9 : ¬ x9 = 0 ↔ sx_R x0 ∧ x2 = 0 ∧ ¬ x3 < 0 ∧ ¬ 25 < x3) :
    wL_lawOf_127 (fun r _ => r = 1) mc ms x0 x2 x3 x6 x9 kc ks 0 a1 a2 a3 a4 a5 a6 a7 a8 a9 :=
  br_c (fun e => sx_139 k h6 h9 (fun _ => rfl) (fun e' => absurd e e')) (fun e => sx_139 k h6 h9 (fun e' => absurd e' e) (fun _ => rfl))
theorem sx_126 {mc ms kc ks : Nat} {x0 x2 x3 x6 : Int32} {a1 a2 a3 a4 a5 a6 a7 a8 a9 : Nat → Int32} (k : sx_K a7 a8 a9) (h6 : x6 = 0 ↔ ¬ sx_R x0) (h9 : ¬ (sx_R x0 ∧ x2 = 0 ∧ ¬ x3 < 0 ∧ ¬ 25 < x3)) :
    wL_lawOf_126 (fun r _ => r = 1) mc ms x0 x2 x3 x6 kc ks 0 a1 a2 a3 a4 a5 a6 a7 a8 a9 :=
  sx_127 k h6 ⟨fun z => absurd rfl z, fun z => absurd z h9⟩
/-- behind 'catchUp' -/
theorem sx_mid {mc ms kc ks : Nat} {x0 x2 x3 x6 : Int32} {a1 a2 a3 a4 a5 a6 a7 a8 a9 : Nat → Int32} (k : sx_K a7 a8 a9) (h6 : x6 = 0 ↔ ¬ sx_R x0) :
    (x6 = 0 → wL_lawOf_126 (fun r _ => r = 1) mc ms x0 x2 x3 x6 kc ks 0 a1 a2 a3 a4 a5 a6 a7 a8 a9) ∧ (¬ x6 = 0 → ((x2 = 0 → ((x3 < 0 → wL_lawOf_126 (fun r _ => r = 1) mc ms x0 x2 x3 x6 kc ks 0 a1 a2 a3 a4 a5 a6 a7 a8 a9) ∧ (¬ x3 < 0 → ((25 < x3 → wL_lawOf_126 (fun r _ => r = 1) mc ms x0 x2 x3 x6 kc ks 0 a1 a2 a3 a4 a5 a6 a7 a8 a9) ∧ (¬ 25 < x3 → wL_lawOf_127 (fun r _ => r = 1) mc ms x0 x2 x3 x6 1 kc ks 0 a1 a2 a3 a4 a5 a6 a7 a8 a9))))) ∧ (¬ x2 = 0 → wL_lawOf_126 (fun r _ => r = 1) mc ms x0 x2 x3 x6 kc ks 0 a1 a2 a3 a4 a5 a6 a7 a8 a9))) :=
  br_c (fun e => sx_126 k h6 (fun z => h6.mp e z.1)) (fun e => br_c
    (fun e2 => br_c (fun g => sx_126 k h6 (fun z => z.2.2.1 g)) (fun g => br_c (fun g' => sx_126 k h6 (fun z => z.2.2.2 g'))
      (fun g' => sx_127 k h6 ⟨fun _ => ⟨Classical.byContradiction (fun r => e (h6.mpr r)), e2, g, g'⟩, fun _ => by decide⟩)))
    (fun e2 => sx_126 k h6 (fun z => e2 z.2.1)))
theorem sx_87 {mc ms kc ks : Nat} {x0 x1 x2 x3 x6 z0 : Int32} {a1 a2 a3 a4 a5 a6 a7 a8 a9 : Nat → Int32} (k : sx_K a7 a8 a9) (h6 : x6 = 0 ↔ ¬ sx_R x0) (hf : ¬ (sx_R x0 ∧ sx_R x1 ∧ ¬ x0 = x1) → -1 = z0) (ht : sx_R x0 ∧ sx_R x1 ∧ ¬ x0 = x1 → 0 = z0) :
    wL_lawOf_87 (fun r _ => r = 1) mc ms x0 x1 x2 x3 x6 z0 kc ks 0 a1 a2 a3 a4 a5 a6 a7 a8 a9 := by
  unfold wL_lawOf_87
  exact sx_catch (fun h => br_t (hf h) (sx_mid k h6)) (fun r r' e => br_t (ht ⟨r, r', e⟩) (sx_mid k h6))
theorem sx_39 {mc ms kc ks : Nat} {x0 x1 x2 x3 x4 x6 z0 : Int32} {a1 a2 a3 a4 a5 a6 a7 a8 a9 : Nat → Int32} (k : sx_K a7 a8 a9) (h6 : x6 = 0 ↔ ¬ sx_R x0) (hz : z0 = 0 ↔ ¬ sx_R x1) :
    wL_lawOf_39 (fun r _ => r = 1) mc ms x0 x1 x2 x3 x4 x6 z0 kc ks 0 a1 a2 a3 a4 a5 a6 a7 a8 a9 := by
  unfold wL_lawOf_39
  refine sx_erase k.2.2 (br_t rfl (sx_learn (br_t rfl ?_)))
  have F : ¬ (sx_R x0 ∧ sx_R x1 ∧ ¬ x0 = x1) → wL_lawOf_86 (fun r _ => r = 1) mc ms x0 x1 x2 x3 x6 kc ks 0 a1 a2 a3 a4 a5 a6 a7 a8 a9 := fun h => sx_87 k h6 (fun _ => rfl) (fun z => absurd z h)
  exact br_c (fun e => F (fun z => h6.mp e z.1)) (fun e => br_c (fun g => F (fun z => hz.mp g z.2.1)) (fun g => br_c (fun q => F (fun z => z.2.2 q))
    (fun q => sx_87 k h6 (fun z => absurd ⟨Classical.byContradiction (fun r => e (h6.mpr r)), Classical.byContradiction (fun r => g (hz.mpr r)), q⟩ z) (fun _ => rfl))))
theorem sx_23 {mc ms kc ks : Nat} {x0 x1 x2 x3 x4 x6 : Int32} {a1 a2 a3 a4 a5 a6 a7 a8 a9 : Nat → Int32} (k : sx_K a7 a8 a9) (h6 : x6 = 0 ↔ ¬ sx_R x0) :
    wL_lawOf_23 (fun r _ => r = 1) mc ms x0 x1 x2 x3 x4 x6 kc ks 0 a1 a2 a3 a4 a5 a6 a7 a8 a9 :=
  br_c (fun e => sx_39 k h6 ⟨fun _ r => r.1 e, fun _ => rfl⟩) (fun e => br_c (fun g => sx_39 k h6 ⟨fun _ r => r.2 ((sx_2 x1).mp g), fun _ => rfl⟩)
    (fun g => sx_39 k h6 ⟨fun z => absurd z (by decide), fun r => absurd ⟨e, fun q => g ((sx_2 x1).mpr q)⟩ r⟩))
theorem sx_init {post : St2 → Prop} (H : ∀ a9 : Nat → Int32, (∀ j, j < 3 → a9 (j * 31 + 30) = 30) → post (0, (fun _ => 0), (fun _ => 0), (fun _ => 0), (fun _ => 0), (fun _ => 0), (fun _ => 0), (fun _ => 0), (fun _ => 0), a9)) :
    wpX_init post 9 252 0 := by
  unfold wpX_init
  refine ⟨by decide, by decide, by decide, by decide, by decide, by decide, by decide, by decide, by decide, by decide, by decide, by decide, by decide, by decide, by decide, by decide, by decide, by decide, 4, ?_⟩
  refine br_f (by decide) ⟨pk_in 30 93 (by decide), nm_r (e' := upd (fun _ => 0) 30 30) rfl (nm_r (e' := 1) (by decide) ?_)⟩
  refine br_f (by decide) ⟨pk_in 61 93 (by decide), nm_r (e' := upd (upd (fun _ => 0) 30 30) 61 30) rfl (nm_r (e' := 2) (by decide) ?_)⟩
  refine br_f (by decide) ⟨pk_in 92 93 (by decide), nm_r (e' := upd (upd (upd (fun _ => 0) 30 30) 61 30) 92 30) rfl (nm_r (e' := 3) (by decide) ?_)⟩
  exact br_t (by decide) (H _ (by decide))
theorem sx_lawOf (x0 x1 x2 x3 x4 : Int32) : wpL_lawOf (fun r _ => r = 1) 10 262 () x0 x1 x2 x3 x4 := by
  unfold wpL_lawOf
  refine ⟨by decide, by decide, 9, 252, by decide, by decide, sx_init (fun a9 h9 => ?_)⟩
  have k : sx_K (fun _ => 0) (fun _ => 0) a9 := ⟨fun _ _ => rfl, fun _ _ => rfl, h9⟩
  exact br_c (fun e => sx_23 k ⟨fun _ r => r.1 e, fun _ => rfl⟩) (fun e => br_c (fun g => sx_23 k ⟨fun _ r => r.2 ((sx_2 x0).mp g), fun _ => rfl⟩)
    (fun g => sx_23 k ⟨fun z => absurd z (by decide), fun r => absurd ⟨e, fun q => g ((sx_2 x0).mpr q)⟩ r⟩))
theorem sx_cell {post : Int32 → Prop} {L : Nat} {xs : Nat → Int32} {p : Int32} (i : Nat) (hi : i < 5) (hL : L ≤ 5) (hp : p = nI i) (H : ∀ r, post r) : wpL_cellAt post L xs () p :=
  pk_le L i (fun _ => H 0) (fun z => ⟨pk_in i L z hp (by omega), H _⟩) rfl hp (by omega) (by omega)
theorem i_vc (xs : Nat → Int32) (L : Nat) (hL : L ≤ 5) : wpL_law (fun r => r = 1) L xs := by
  unfold wpL_law
  exact sx_cell 0 (by decide) hL rfl (fun r1 => sx_cell 1 (by decide) hL rfl (fun r2 => sx_cell 2 (by decide) hL rfl (fun r3 => sx_cell 3 (by decide) hL rfl (fun r4 => sx_cell 4 (by decide) hL rfl (fun r5 => ⟨10, 262, by decide, by decide, sx_lawOf r1 r2 r3 r4 r5⟩)))))
end
