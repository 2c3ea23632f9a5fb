section
/-! the places 0 and 1; reading behind a store -/
theorem tr_in0 : vp_in 0 24 := vp_in_iff.mpr (by decide)
theorem tr_in1 : vp_in 1 24 := vp_in_iff.mpr (by decide)
theorem tr_c0 : (0 : Int32).toNatClampNeg = 0 := by decide
theorem tr_c1 : (1 : Int32).toNatClampNeg = 1 := by decide
theorem tr_c4 : ((1 : Int32) * 4).toNatClampNeg = 4 := by decide
/-! hooks: none is there -/
theorem tr_carry {post : Int32 → St2 → Prop} {fn ft fo fs : Int32} {a1 a2 a3 a4 a5 a6 a7 a8 a9 a10 a11 a12 a13 a14 a15 : Nat → Int32} {p q : Int32} (hi : vp_in ((p * 4) + q) 96) (h6 : ∀ j, a6 j = 0) (hp : post 0 (fn, ft, fo, fs, a1, a2, a3, a4, a5, a6, a7, a8, a9, a10, a11, a12, a13, a14, a15)) : wpX_carryOut post (fn, ft, fo, fs, a1, a2, a3, a4, a5, a6, a7, a8, a9, a10, a11, a12, a13, a14, a15) p q :=
  And.intro hi (nm_r (h6 _) (br_t rfl hp))
theorem tr_worse0 {post : Int32 → Prop} {x : Int32} (h : x = 1 ∨ x = 2 ∨ x = 3) (hp : post x) : wpX_worse post () x 0 := by
  rcases h with rfl | rfl | rfl
  · exact br_f (by decide) (br_f (by decide) (br_f (by decide) (br_f (by decide) hp)))
  · exact br_t rfl hp
  · exact br_f (by decide) (br_f (by decide) (br_t rfl hp))
theorem tr_worse1 {post : Int32 → Prop} {x : Int32} (h : x = 0 ∨ x = 1 ∨ x = 2 ∨ x = 3) (hp : post (if x = 0 then 1 else x)) : wpX_worse post () 1 x := by
  rcases h with rfl | rfl | rfl | rfl
  · exact br_f (by decide) (br_f (by decide) (br_f (by decide) (br_f (by decide) hp)))
  · exact br_f (by decide) (br_f (by decide) (br_f (by decide) (br_f (by decide) hp)))
  · exact br_f (by decide) (br_t rfl hp)
  · exact br_f (by decide) (br_f (by decide) (br_f (by decide) (br_t rfl hp)))
theorem tr_worseP {post : Int32 → Prop} {x : Int32} (h : x = 1 ∨ x = 2 ∨ x = 3) (hp : post x) : wpX_worse post () 1 x := by
  refine tr_worse1 (Or.inr h) ?_
  rw [if_neg]
  · exact hp
  · rcases h with rfl | rfl | rfl <;> decide
theorem tr_note {post : St2 → Prop} {fn ft fo fs : Int32} {a1 a2 a3 a4 a5 a6 a7 a8 a9 a10 a11 a12 a13 a14 a15 : Nat → Int32} {x : Int32} (h : wpX_worse (fun r => post (fn, ft, fo, r, a1, a2, a3, a4, a5, a6, a7, a8, a9, a10, a11, a12, a13, a14, a15)) () fs x) : wpX_note post (fn, ft, fo, fs, a1, a2, a3, a4, a5, a6, a7, a8, a9, a10, a11, a12, a13, a14, a15) x := h
/-- going down the one container, the root, without a hook -/
theorem tr_goDown {post : Int32 → St2 → Prop} {fn ft : Int32} {a1 a2 a3 a4 a5 a6 a7 a8 a9 a10 a11 a12 a13 a14 a15 : Nat → Int32} (h6 : ∀ j, a6 j = 0) (h15 : a15 0 = 0) (hp : post 1 (fn, ft, 1, 1, a1, a2, a3, a4, a5, a6, a7, a8, a9, a10, a11, a12, a13, a14, a15)) : wpX_goDown post (fn, ft, 1, 1, a1, a2, a3, a4, a5, a6, a7, a8, a9, a10, a11, a12, a13, a14, a15) := by
  have e : a15 (0 : Int32).toNatClampNeg = 0 := h15
  refine Exists.intro 2 (br_f (by decide) (br_t rfl (And.intro tr_in0 (tr_carry (by rw [e]; exact vp_in_iff.mpr (by decide)) h6 ?_))))
  refine tr_note (tr_worse0 (Or.inl rfl) (nm_r (e' := 1) (by decide) ?_))
  exact br_t (by decide) hp
/-- how attempt i of a test with the outcomes x ends -/
def tr_o (x i : Int32) : Int32 := if (x >>> ((2 * i) &&& 31)) &&& 3 = 0 then 1 else (x >>> ((2 * i) &&& 31)) &&& 3
theorem tr_and3 (x : Int32) : x &&& 3 = 0 ∨ x &&& 3 = 1 ∨ x &&& 3 = 2 ∨ x &&& 3 = 3 := by
  obtain ⟨j, hj, e⟩ := pk_andE x (m := 3) 2 (by decide)
  rw [e]
  have h4 : j = 0 ∨ j = 1 ∨ j = 2 ∨ j = 3 := by omega
  rcases h4 with rfl | rfl | rfl | rfl <;> decide
theorem tr_o3 (x i : Int32) : tr_o x i = 1 ∨ tr_o x i = 2 ∨ tr_o x i = 3 := by
  unfold tr_o
  rcases tr_and3 (x >>> ((2 * i) &&& 31)) with e | e | e | e <;> rw [e] <;> decide
theorem tr_bo {post : Int32 → Prop} {fn ft fo fs : Int32} {a1 a2 a3 a4 a5 a6 a7 a8 a9 a10 a11 a12 a13 a14 a15 : Nat → Int32} {p i : Int32} (hi : vp_in p 24) (hp : post (tr_o (a8 p.toNatClampNeg) i)) : wpX_bodyOutcome post (fn, ft, fo, fs, a1, a2, a3, a4, a5, a6, a7, a8, a9, a10, a11, a12, a13, a14, a15) p i := by
  refine And.intro hi (nm_e (br_c (fun h => ?_) (fun h => ?_)))
  · rw [tr_o, if_pos h] at hp
    exact hp
  · rw [tr_o, if_neg h] at hp
    exact hp
/-- one attempt of the test 1 below the root -/
theorem tr_attempt {post : Int32 → St2 → Prop} {fn ft fs : Int32} {a1 a2 a3 a4 a5 a6 a7 a8 a9 a10 a11 a12 a13 a14 a15 : Nat → Int32} {i : Int32} (h6 : ∀ j, a6 j = 0) (h15 : a15 0 = 0)
    (hp : post (tr_o (a8 1) i) (fn, ft + 1, 1, tr_o (a8 1) i, a1, a2, a3, a4, a5, a6, a7, a8, a9, a10, a11, upd a12 4 (a12 4 + 1), a13, a14, a15)) : wpX_attempt post (fn, ft, 1, fs, a1, a2, a3, a4, a5, a6, a7, a8, a9, a10, a11, a12, a13, a14, a15) 1 i := by
  have e : a15 (0 : Int32).toNatClampNeg = 0 := h15
  refine tr_goDown h6 h15 (br_t rfl (And.intro (vp_in_iff.mpr (by decide)) (And.intro (vp_in_iff.mpr (by decide)) (nm_e (nm_e (tr_bo tr_in1 ?_))))))
  refine tr_note (tr_worseP (tr_o3 _ _) (nm_r (e' := 0) (by decide) (Exists.intro 2 ?_)))
  refine br_f (by decide) (And.intro tr_in0 (tr_carry (by rw [e]; exact vp_in_iff.mpr (by decide)) h6 ?_))
  refine tr_note (tr_worse0 (tr_o3 _ _) (nm_r (e' := -1) (by decide) ?_))
  exact br_t (by decide) hp
/-- m attempts are made of at most n -/
def tr_ok (f : Nat → Int32) (n m : Nat) : Prop := 0 < m ∧ m ≤ n ∧ (∀ j, j + 1 < m → f j = 2) ∧ (m = n ∨ ¬ f (m - 1) = 2)
theorem tr_runTest {post : St2 → Prop} {fn fs : Int32} {a1 a2 a3 a4 a5 a6 a7 a8 a9 a10 a11 a12 a13 a14 a15 : Nat → Int32} {n m : Nat} (h6 : ∀ j, a6 j = 0) (h15 : a15 0 = 0) (h7 : a7 1 = nI n) (hn : n ≤ 4) (h12 : a12 4 = 0) (h13 : a13 1 = 0)
    (ok : tr_ok (fun k => tr_o (a8 1) (nI k)) n m)
    (hp : ∀ s b12 b13, b12 4 = nI m → b13 1 = nI m → post (fn, nI m, 1, s, a1, a2, a3, a4, a5, a6, a7, a8, a9, a10, upd a11 1 (tr_o (a8 1) (nI (m - 1))), b12, b13, a14, a15)) : wpX_runTest post (fn, 0, 1, fs, a1, a2, a3, a4, a5, a6, a7, a8, a9, a10, a11, a12, a13, a14, a15) 1 := by
  obtain ⟨hm0, hmn, hbe, hend⟩ := ok
  have e7 : a7 (1 : Int32).toNatClampNeg = nI n := h7
  refine pk_loop (fun fu i (s : Int32 × Int32 × Int32 × (Nat → Int32) × (Nat → Int32)) => wX_runTest_4 post 1 fu s.1 (nI i) fn s.2.1 1 s.2.2.1 a1 a2 a3 a4 a5 a6 a7 a8 a9 a10 a11 (s.2.2.2.1) (s.2.2.2.2) a14 a15)
    (fun i s => s.1 = (if i = 0 then 2 else tr_o (a8 1) (nI (i - 1))) ∧ s.2.1 = nI i ∧ s.2.2.2.1 4 = nI i ∧ s.2.2.2.2 1 = nI i) m 0 (2, 0, fs, a12, a13) (Nat.zero_le m) ⟨rfl, rfl, h12, h13⟩ ?_ ?_
  · rintro fu ⟨x2, t, s, b12, b13⟩ ⟨e1, e2, e3, e4⟩
    dsimp only at e1 e2 e3 e4
    rw [if_neg (by omega)] at e1
    subst e1 e2
    have F := hp s b12 b13 e3 e4
    refine And.intro tr_in1 ?_
    rcases hend with z | z
    · exact br_t (by rw [e7, z]; exact nI_le (Nat.le_refl n) (by omega)) (And.intro tr_in1 (nm_e F))
    · exact br_c (fun _ => And.intro tr_in1 (nm_e F)) (fun _ => br_f z (And.intro tr_in1 (nm_e F)))
  · rintro fu i ⟨x2, t, s, b12, b13⟩ hi ⟨e1, e2, e3, e4⟩ hw
    dsimp only at e1 e2 e3 e4
    have x22 : x2 = 2 := by
      by_cases z : i = 0
      · rw [e1, if_pos z]
      · rw [e1, if_neg z]
        exact hbe (i - 1) (by omega)
    refine And.intro tr_in1 (br_f (by rw [e7]; exact nI_ge (by omega) (by omega)) (br_t x22 (tr_attempt h6 h15 ?_)))
    refine And.intro tr_in1 (And.intro tr_in1 (nm_e (nm_r (nI_1 i) ?_)))
    refine hw (tr_o (a8 1) (nI i), t + 1, tr_o (a8 1) (nI i), upd b12 4 (b12 4 + 1), upd b13 1 (b13 1 + 1)) ⟨?_, ?_, ?_, ?_⟩
    · show tr_o (a8 1) (nI i) = _
      rw [if_neg (by omega), Nat.add_sub_cancel]
    · show t + 1 = _
      rw [e2, nI_1]
    · show upd b12 4 (b12 4 + 1) 4 = _
      rw [pk_us, e3, nI_1]
    · show upd b13 1 (b13 1 + 1) 1 = _
      rw [pk_us, e4, nI_1]
/-- the root is come to, its first child is the test 1 -/
theorem tr_enter {post : Int32 → St2 → Prop} {fn ft fs : Int32} {a1 a2 a3 a4 a5 a6 a7 a8 a9 a10 a11 a12 a13 a14 a15 : Nat → Int32} (h6 : ∀ j, a6 j = 0) (h3 : a3 0 = 1) (hp : post 1 (fn, ft, 1, fs, a1, a2, a3, a4, a5, a6, a7, a8, a9, a10, upd a11 0 1, a12, a13, a14, upd a15 0 0)) : wpX_enter post (fn, ft, 0, fs, a1, a2, a3, a4, a5, a6, a7, a8, a9, a10, a11, a12, a13, a14, a15) 0 := by
  have e : a3 (0 : Int32).toNatClampNeg = 1 := h3
  unfold wpX_enter
  refine tr_carry (vp_in_iff.mpr (by decide)) h6 (tr_worse1 (Or.inl rfl) (And.intro tr_in0 (nm_e (And.intro tr_in0 (nm_e (nm_r (e' := 1) (by decide) (And.intro tr_in0 (br_t pk_us (And.intro tr_in0 ?_)))))))))
  rw [e]
  exact hp
theorem tr_leave {post : St2 → Prop} {fn ft fs : Int32} {a1 a2 a3 a4 a5 a6 a7 a8 a9 a10 a11 a12 a13 a14 a15 : Nat → Int32} (h6 : ∀ j, a6 j = 0) (h15 : a15 0 = 0) (h11 : a11 0 = 1) (hp : post (fn, ft, 0, fs, a1, a2, a3, a4, a5, a6, a7, a8, a9, a10, upd a11 0 1, a12, a13, a14, a15)) : wpX_leave post (fn, ft, 1, fs, a1, a2, a3, a4, a5, a6, a7, a8, a9, a10, a11, a12, a13, a14, a15) := by
  have e : a11 (0 : Int32).toNatClampNeg = 1 := h11
  refine nm_r (e' := 0) (by decide) (And.intro tr_in0 (nm_r (e' := 0) h15 (tr_carry (vp_in_iff.mpr (by decide)) h6 (And.intro tr_in0 ?_))))
  rw [e]
  exact tr_worse0 (Or.inl rfl) (And.intro tr_in0 (nm_e hp))
theorem tr_walk {post : St2 → Prop} {fn fo fs : Int32} {a1 a2 a3 a4 a5 a6 a7 a8 a9 a10 a11 a12 a13 a14 a15 : Nat → Int32} {n m : Nat} (h1 : ¬ a1 1 = 0) (h3 : a3 0 = 1) (h50 : a5 0 = -1) (h51 : a5 1 = -1) (h6 : ∀ j, a6 j = 0) (h7 : a7 1 = nI n) (hn : n ≤ 4) (h12 : a12 4 = 0) (h13 : a13 1 = 0) (h14 : ¬ a14 1 = 0)
    (ok : tr_ok (fun k => tr_o (a8 1) (nI k)) n m)
    (hp : ∀ s b11 b12 b13 b15, b11 0 = 1 → b11 1 = tr_o (a8 1) (nI (m - 1)) → b12 4 = nI m → b13 1 = nI m → post (fn, nI m, 0, s, a1, a2, a3, a4, a5, a6, a7, a8, a9, a10, b11, b12, b13, a14, b15)) : wpX_walk post (fn, 0, fo, fs, a1, a2, a3, a4, a5, a6, a7, a8, a9, a10, a11, a12, a13, a14, a15) := by
  unfold wpX_walk
  refine tr_enter h6 h3 (Exists.intro 3 ?_)
  refine br_f (by decide) (br_f (by decide) (br_t (by decide) (And.intro tr_in1 (br_f h14 (And.intro tr_in1 (br_f h1 (tr_runTest h6 pk_us h7 hn h12 h13 ok ?_)))))))
  intro s b12 b13 e12 e13
  refine And.intro tr_in1 (nm_r (e' := -1) h51 (nm_r (e' := 1) (by decide) ?_))
  refine br_f (by decide) (br_f (by decide) (br_f (by decide) (And.intro (vp_in_iff.mpr (by decide)) (nm_r (e' := 0) pk_us (tr_leave h6 pk_us ?_ ?_)))))
  · rw [pk_un (by decide), pk_us]
  · refine And.intro tr_in0 (nm_r (e' := -1) h50 (nm_r (e' := 2) (by decide) ?_))
    refine br_f (by decide) (br_t (by decide) (hp s _ b12 b13 _ pk_us ?_ e12 e13))
    rw [pk_un (by decide), pk_us]
end
section
/-! who takes part: the root and the test, both or none -/
theorem tr_child0 {post : Int32 → Prop} {fn ft fo fs : Int32} {a1 a2 a3 a4 a5 a6 a7 a8 a9 a10 a11 a12 a13 a14 a15 : Nat → Int32} (h3 : a3 0 = 1) (h51 : a5 1 = -1) (h14 : a14 1 = 0) (hp : post 0) : wpX_childTakesPart post (fn, ft, fo, fs, a1, a2, a3, a4, a5, a6, a7, a8, a9, a10, a11, a12, a13, a14, a15) 0 :=
  And.intro tr_in0 (nm_r (e' := 1) h3 (Exists.intro 2 (br_f (by decide) (br_f (by decide) (And.intro tr_in1 (br_t h14 (And.intro tr_in1 (nm_r (e' := -1) h51 (nm_r (e' := 1) (by decide) (br_f (by decide) (br_t (by decide) hp)))))))))))
theorem tr_child1 {post : Int32 → Prop} {fn ft fo fs : Int32} {a1 a2 a3 a4 a5 a6 a7 a8 a9 a10 a11 a12 a13 a14 a15 : Nat → Int32} (h3 : a3 0 = 1) (h14 : ¬ a14 1 = 0) (hp : post 1) : wpX_childTakesPart post (fn, ft, fo, fs, a1, a2, a3, a4, a5, a6, a7, a8, a9, a10, a11, a12, a13, a14, a15) 0 :=
  And.intro tr_in0 (nm_r (e' := 1) h3 (Exists.intro 2 (br_f (by decide) (br_f (by decide) (And.intro tr_in1 (br_f h14 hp))))))
theorem tr_choose {post : St2 → Prop} {ft fo fs : Int32} {a1 a2 a3 a4 a5 a6 a7 a8 a9 a10 a11 a12 a13 a14 a15 : Nat → Int32} {x : Int32} (h10 : a1 0 = 0) (h11 : ¬ a1 1 = 0) (h2 : a2 1 = 0) (h3 : a3 0 = 1) (h51 : a5 1 = -1) (hd0 : a10 0 = 0) (hd1 : a10 1 = 0)
    (H0 : a9 1 &&& x = 0 → ∀ b14, b14 0 = 0 → post (2, ft, fo, fs, a1, a2, a3, a4, a5, a6, a7, a8, a9, a10, a11, a12, a13, b14, a15))
    (H1 : ¬ a9 1 &&& x = 0 → ∀ b14, ¬ b14 0 = 0 → ¬ b14 1 = 0 → post (2, ft, fo, fs, a1, a2, a3, a4, a5, a6, a7, a8, a9, a10, a11, a12, a13, b14, a15)) : wpX_choose post (2, ft, fo, fs, a1, a2, a3, a4, a5, a6, a7, a8, a9, a10, a11, a12, a13, a14, a15) x := by
  have e2 : a2 (1 : Int32).toNatClampNeg = 0 := h2
  refine Exists.intro 3 (br_f (by decide) (And.intro tr_in0 (br_t hd0 (br_t (by decide) (br_t rfl (And.intro tr_in0 (nm_e (nm_r (e' := 1) (by decide) ?_))))))))
  refine br_f (by decide) (And.intro tr_in1 (br_t hd1 (br_f (by decide) (And.intro tr_in1 (And.intro ?_ (br_f ?_ (br_t rfl (And.intro tr_in1 (nm_e (nm_r (e' := 2) (by decide) ?_))))))))))
  · rw [e2]
    exact tr_in0
  · rw [e2, pk_us]
    decide
  refine br_t (by decide) (nm_r (e' := 1) (by decide) (Exists.intro 3 ?_))
  refine br_f (by decide) (And.intro tr_in1 (br_f h11 (And.intro tr_in1 (br_f (by rw [pk_us]; decide) (And.intro tr_in1 (br_c (fun z => ?_) (fun z => ?_)))))))
  · refine And.intro tr_in1 (nm_e (nm_r (e' := 0) (by decide) ?_))
    refine br_f (by decide) (And.intro tr_in0 (br_t h10 (And.intro tr_in0 (br_f ?_ (tr_child0 h3 h51 pk_us (br_t rfl (And.intro tr_in0 (nm_e (nm_r (e' := -1) (by decide) (br_t (by decide) (H0 z _ pk_us)))))))))))
    rw [pk_un (by decide), pk_un (by decide), pk_us]
    decide
  · refine And.intro tr_in1 (nm_e (nm_r (e' := 0) (by decide) ?_))
    refine br_f (by decide) (And.intro tr_in0 (br_t h10 (And.intro tr_in0 (br_f ?_ (tr_child1 h3 ?_ (br_f (by decide) (And.intro tr_in0 (nm_e (nm_r (e' := -1) (by decide) (br_t (by decide) (H1 z _ ?_ ?_)))))))))))
    · rw [pk_un (by decide), pk_un (by decide), pk_us]
      decide
    · show ¬ upd _ (1 : Int32).toNatClampNeg 1 (1 : Int32).toNatClampNeg = 0
      rw [pk_us]
      decide
    · show ¬ upd _ (0 : Int32).toNatClampNeg 1 (0 : Int32).toNatClampNeg = 0
      rw [pk_us]
      decide
    · rw [pk_un (by decide)]
      show ¬ upd _ (1 : Int32).toNatClampNeg 1 (1 : Int32).toNatClampNeg = 0
      rw [pk_us]
      decide
/-! the failed tests -/
theorem tr_count {post : Int32 → Prop} {ft fo fs : Int32} {a1 a2 a3 a4 a5 a6 a7 a8 a9 a10 a11 a12 a13 a14 a15 : Nat → Int32} (h10 : a1 0 = 0) (h11 : ¬ a1 1 = 0) (hp : post (if a11 1 = 2 then 1 else 0)) : wpX_count post (2, ft, fo, fs, a1, a2, a3, a4, a5, a6, a7, a8, a9, a10, a11, a12, a13, a14, a15) 2 := by
  refine br_f (by decide) (br_t (by decide) (Exists.intro 3 (br_f (by decide) (And.intro tr_in0 (br_t h10 (nm_r (e' := 1) (by decide) ?_))))))
  refine br_f (by decide) (And.intro tr_in1 (br_f h11 (And.intro tr_in1 (br_c (fun z => ?_) (fun z => ?_)))))
  · refine nm_r (e' := 1) (by decide) (nm_r (e' := 2) (by decide) (br_t (by decide) ?_))
    rw [if_pos (show a11 1 = 2 from z)] at hp
    exact hp
  · refine nm_r (e' := 2) (by decide) (br_t (by decide) ?_)
    rw [if_neg (show ¬ a11 1 = 2 from z)] at hp
    exact hp
theorem tr_fill {s : Nat → Int32} {i k : Nat} (hk : k = i) (h : ∀ j, j < i → s j = 0) : ∀ j, j < i + 1 → upd s k 0 j = 0 := by
  intro j hj
  rw [hk]
  by_cases e : j = i
  · rw [e, pk_us]
  · rw [pk_un e]
    exact h j (by omega)
/-! a run -/
theorem tr_run30 {post : Int32 → St2 → Prop} {ft fo fs : Int32} {a1 a2 a3 a4 a5 a6 a7 a8 a9 a10 a11 a12 a13 a14 a15 : Nat → Int32} {x : Int32} {n m : Nat} (h10 : a1 0 = 0) (h11 : ¬ a1 1 = 0) (h2 : a2 1 = 0) (h3 : a3 0 = 1) (h50 : a5 0 = -1) (h51 : a5 1 = -1) (h6 : ∀ j, a6 j = 0) (h7 : a7 1 = nI n) (hn : n ≤ 4) (hd0 : a10 0 = 0) (hd1 : a10 1 = 0)
    (ok : tr_ok (fun k => tr_o (a8 1) (nI k)) n m) (hr0 : a11 0 = 0) (hr1 : a11 1 = 0) (h13 : a13 1 = 0)
    (H0 : a9 1 &&& x = 0 → ∀ b11 b12 b13 b14, b11 0 = 0 → b11 1 = 0 → b12 4 = 0 → b13 1 = 0 → post 0 (2, 0, fo, fs, a1, a2, a3, a4, a5, a6, a7, a8, a9, a10, b11, b12, b13, b14, a15))
    (H1 : ¬ a9 1 &&& x = 0 → ∀ s b11 b12 b13 b14 b15, b11 0 = 1 → b11 1 = tr_o (a8 1) (nI (m - 1)) → b12 4 = nI m → b13 1 = nI m → post (if tr_o (a8 1) (nI (m - 1)) = 2 then 1 else 0) (2, nI m, 0, s, a1, a2, a3, a4, a5, a6, a7, a8, a9, a10, b11, b12, b13, b14, b15)) :
    ∃ fu, wX_run_30 post x 2 ft fo fs fu 0 a1 a2 a3 a4 a5 a6 a7 a8 a9 a10 a11 a12 a13 a14 a15 := by
  refine pk_loop (fun fu i (s : Nat → Int32) => wX_run_30 post x 2 ft fo fs fu (nI i) a1 a2 a3 a4 a5 a6 a7 a8 a9 a10 a11 s a13 a14 a15) (fun i s => ∀ j, j < i → s j = 0) 96 0 a12 (by omega) (fun j hj => absurd hj (by omega)) ?_ ?_
  · intro fu s h
    refine pk_le 96 96 (fun _ => ?_) (fun z => absurd z (by omega))
    refine tr_choose h10 h11 h2 h3 h51 hd0 hd1 (fun z b14 e => ?_) (fun z b14 e e' => ?_)
    · refine br_t e (tr_count h10 h11 ?_)
      rw [if_neg (by rw [hr1]; decide)]
      exact H0 z a11 s a13 b14 hr0 hr1 (h 4 (by omega)) h13
    · refine br_f e (tr_walk h11 h3 h50 h51 h6 h7 hn (h 4 (by omega)) h13 e' ok (fun w b11 b12 b13 b15 g0 g1 g2 g3 => ?_))
      refine tr_count h10 h11 ?_
      rw [g1]
      exact H1 z w b11 b12 b13 b14 b15 g0 g1 g2 g3
  · intro fu i s hi h hw
    exact pk_le 96 i (fun z => absurd z (by omega)) (fun _ => And.intro (pk_in i 96 hi) (nm_e (nm_r (nI_1 i) (hw _ (tr_fill (nI_clamp (by omega)) h)))))
theorem tr_run {post : Int32 → St2 → Prop} {ft fo fs : Int32} {a1 a2 a3 a4 a5 a6 a7 a8 a9 a10 a11 a12 a13 a14 a15 : Nat → Int32} {x : Int32} {n m : Nat} (h10 : a1 0 = 0) (h11 : ¬ a1 1 = 0) (h2 : a2 1 = 0) (h3 : a3 0 = 1) (h50 : a5 0 = -1) (h51 : a5 1 = -1) (h6 : ∀ j, a6 j = 0) (h7 : a7 1 = nI n) (hn : n ≤ 4) (hd0 : a10 0 = 0) (hd1 : a10 1 = 0)
    (ok : tr_ok (fun k => tr_o (a8 1) (nI k)) n m)
    (H0 : a9 1 &&& x = 0 → ∀ b11 b12 b13 b14, b11 0 = 0 → b11 1 = 0 → b12 4 = 0 → b13 1 = 0 → post 0 (2, 0, fo, fs, a1, a2, a3, a4, a5, a6, a7, a8, a9, a10, b11, b12, b13, b14, a15))
    (H1 : ¬ a9 1 &&& x = 0 → ∀ s b11 b12 b13 b14 b15, b11 0 = 1 → b11 1 = tr_o (a8 1) (nI (m - 1)) → b12 4 = nI m → b13 1 = nI m → post (if tr_o (a8 1) (nI (m - 1)) = 2 then 1 else 0) (2, nI m, 0, s, a1, a2, a3, a4, a5, a6, a7, a8, a9, a10, b11, b12, b13, b14, b15)) :
    wpX_run post (2, ft, fo, fs, a1, a2, a3, a4, a5, a6, a7, a8, a9, a10, a11, a12, a13, a14, a15) x := by
  refine pk_loop (fun fu i (s : (Nat → Int32) × (Nat → Int32)) => wX_run_2 post x 2 ft fo fs fu (nI i) a1 a2 a3 a4 a5 a6 a7 a8 a9 a10 (s.1) a12 (s.2) a14 a15) (fun i s => (∀ j, j < i → s.1 j = 0) ∧ (∀ j, j < i → s.2 j = 0)) 24 0 (a11, a13) (by omega) ⟨fun j hj => absurd hj (by omega), fun j hj => absurd hj (by omega)⟩ ?_ ?_
  · rintro fu ⟨s, t⟩ ⟨hs, ht⟩
    refine pk_le 24 24 (fun _ => ?_) (fun z => absurd z (by omega))
    exact tr_run30 h10 h11 h2 h3 h50 h51 h6 h7 hn hd0 hd1 ok (hs 0 (by omega)) (hs 1 (by omega)) (ht 1 (by omega)) H0 H1
  · rintro fu i ⟨s, t⟩ hi ⟨hs, ht⟩ hw
    exact pk_le 24 i (fun z => absurd z (by omega)) (fun _ => And.intro (pk_in i 24 hi) (nm_e (And.intro (pk_in i 24 hi) (nm_e (nm_r (nI_1 i) (hw (_, _) ⟨tr_fill (nI_clamp (by omega)) hs, tr_fill (nI_clamp (by omega)) ht⟩))))))
/-! questions -/
theorem tr_result {post : Int32 → Prop} {ft fo fs : Int32} {a1 a2 a3 a4 a5 a6 a7 a8 a9 a10 a11 a12 a13 a14 a15 : Nat → Int32} {p : Int32} (h0 : ¬ p < 0) (h2 : p < 2) (hi : vp_in p 24) (hp : post (a11 p.toNatClampNeg)) : wpX_result post (2, ft, fo, fs, a1, a2, a3, a4, a5, a6, a7, a8, a9, a10, a11, a12, a13, a14, a15) p := br_f h0 (br_t h2 (br_t rfl (And.intro hi hp)))
theorem tr_attempts {post : Int32 → Prop} {ft fo fs : Int32} {a1 a2 a3 a4 a5 a6 a7 a8 a9 a10 a11 a12 a13 a14 a15 : Nat → Int32} {p : Int32} (h0 : ¬ p < 0) (h2 : p < 2) (hi : vp_in p 24) (hp : post (a13 p.toNatClampNeg)) : wpX_attempts post (2, ft, fo, fs, a1, a2, a3, a4, a5, a6, a7, a8, a9, a10, a11, a12, a13, a14, a15) p := br_f h0 (br_t h2 (br_t rfl (And.intro hi hp)))
theorem tr_times {post : Int32 → Prop} {ft fo fs : Int32} {a1 a2 a3 a4 a5 a6 a7 a8 a9 a10 a11 a12 a13 a14 a15 : Nat → Int32} (hp : post (a12 4)) : wpX_times post (2, ft, fo, fs, a1, a2, a3, a4, a5, a6, a7, a8, a9, a10, a11, a12, a13, a14, a15) 1 0 := br_f (by decide) (br_t (by decide) (br_t rfl (br_f (by decide) (br_t (by decide) (And.intro (vp_in_iff.mpr (by decide)) hp)))))
end
section
/-! the law's own count of attempts: behind step k it has made m -/
def tr_J (f : Nat → Int32) (n k m : Nat) : Prop := 0 < m ∧ m ≤ n ∧ m ≤ k ∧ (∀ j, j + 1 < m → f j = 2) ∧ (m = k ∨ m = n ∨ ¬ f (m - 1) = 2)
theorem tr_Jle {f : Nat → Int32} {n k m : Nat} (h : tr_J f n k m) (hn : n ≤ k) : tr_J f n (k + 1) m := by
  obtain ⟨h0, h1, h2, h3, h4⟩ := h
  refine ⟨h0, h1, by omega, h3, ?_⟩
  rcases h4 with z | z | z
  · exact Or.inr (Or.inl (by omega))
  · exact Or.inr (Or.inl z)
  · exact Or.inr (Or.inr z)
theorem tr_Jne {f : Nat → Int32} {n k m : Nat} (h : tr_J f n k m) (hn : ¬ f (m - 1) = 2) : tr_J f n (k + 1) m := by
  obtain ⟨h0, h1, h2, h3, h4⟩ := h
  exact ⟨h0, h1, by omega, h3, Or.inr (Or.inr hn)⟩
theorem tr_Jup {f : Nat → Int32} {n k m : Nat} (h : tr_J f n k m) (hf : f (m - 1) = 2) (hn : k < n) : tr_J f n (k + 1) (k + 1) := by
  obtain ⟨h0, h1, h2, h3, h4⟩ := h
  have e : m = k := by
    rcases h4 with z | z | z
    · exact z
    · omega
    · exact absurd hf z
  subst e
  refine ⟨by omega, by omega, by omega, fun j hj => ?_, Or.inl rfl⟩
  by_cases z : j + 1 < m
  · exact h3 j z
  · rw [show j = m - 1 by omega]
    exact hf
theorem tr_Jok {f : Nat → Int32} {n m : Nat} (h : tr_J f n 4 m) (hn : n ≤ 4) : tr_ok f n m := by
  obtain ⟨h0, h1, h2, h3, h4⟩ := h
  refine ⟨h0, h1, h3, ?_⟩
  rcases h4 with z | z | z
  · exact Or.inl (by omega)
  · exact Or.inl z
  · exact Or.inr z
theorem tr_J1 {f : Nat → Int32} {n : Nat} (hn : 0 < n) : tr_J f n 1 1 := ⟨by omega, by omega, by omega, fun j hj => absurd hj (by omega), Or.inl rfl⟩
theorem tr_pick {e v : Int32} {W : Int32 → Prop} (hv : (if e = 0 then 1 else e) = v) (h : W v) : ∀ x, x = e → ((x = 0 → W 1) ∧ (¬ x = 0 → W x)) := by
  intro x hx
  subst hx
  refine ⟨fun z => ?_, fun z => ?_⟩
  · rw [if_pos z] at hv
    rw [hv]
    exact h
  · rw [if_neg z] at hv
    rw [hv]
    exact h
theorem tr_e0 (x : Int32) : (if x &&& 3 = 0 then 1 else x &&& 3) = tr_o x (nI 0) := by
  unfold tr_o
  rw [show (2 * nI 0 : Int32) = 0 by decide, sb_shr0]
theorem tr_e1 (x : Int32) : (if (x >>> ((2 : Int32) &&& 31)) &&& 3 = 0 then 1 else (x >>> ((2 : Int32) &&& 31)) &&& 3) = tr_o x (nI 1) := by
  unfold tr_o
  rw [show (2 * nI 1 : Int32) = 2 by decide]
theorem tr_e2 (x : Int32) : (if (x >>> ((4 : Int32) &&& 31)) &&& 3 = 0 then 1 else (x >>> ((4 : Int32) &&& 31)) &&& 3) = tr_o x (nI 2) := by
  unfold tr_o
  rw [show (2 * nI 2 : Int32) = 4 by decide]
theorem tr_e3 (x : Int32) : (if (x >>> ((6 : Int32) &&& 31)) &&& 3 = 0 then 1 else (x >>> ((6 : Int32) &&& 31)) &&& 3) = tr_o x (nI 3) := by
  unfold tr_o
  rw [show (2 * nI 3 : Int32) = 6 by decide]
/-! the law's four steps -/
theorem tr_162 {post : Int32 → St0 → Prop} {mc ms kc ks : Nat} {x1 x3 x6 : Int32} {fn ft fo fs : Int32} {a1 a2 a3 a4 a5 a6 a7 a8 a9 a10 a11 a12 a13 a14 a15 : Nat → Int32} {n m : Nat} (hn : n ≤ 4)
    (H : ∀ m, tr_J (fun k => tr_o x1 (nI k)) n 4 m → wL_lawOf_198 post mc ms x3 x6 (nI m) (tr_o x1 (nI (m - 1))) kc ks fn ft fo fs a1 a2 a3 a4 a5 a6 a7 a8 a9 a10 a11 a12 a13 a14 a15)
    (h : tr_J (fun k => tr_o x1 (nI k)) n 3 m) : wL_lawOf_162 post mc ms x1 x3 (nI n) x6 (nI m) (tr_o x1 (nI (m - 1))) kc ks fn ft fo fs a1 a2 a3 a4 a5 a6 a7 a8 a9 a10 a11 a12 a13 a14 a15 :=
  br_c (fun h2 => pk_le n 3 (fun z => H m (tr_Jle h z)) (fun z => tr_pick (W := fun r => wL_lawOf_193 post mc ms x3 x6 r kc ks fn ft fo fs a1 a2 a3 a4 a5 a6 a7 a8 a9 a10 a11 a12 a13 a14 a15) (tr_e3 x1) (H 4 (tr_Jup h h2 z)))) (fun h2 => H m (tr_Jne h h2))
theorem tr_127 {post : Int32 → St0 → Prop} {mc ms kc ks : Nat} {x1 x3 x6 : Int32} {fn ft fo fs : Int32} {a1 a2 a3 a4 a5 a6 a7 a8 a9 a10 a11 a12 a13 a14 a15 : Nat → Int32} {n m : Nat} (hn : n ≤ 4)
    (H : ∀ m, tr_J (fun k => tr_o x1 (nI k)) n 4 m → wL_lawOf_198 post mc ms x3 x6 (nI m) (tr_o x1 (nI (m - 1))) kc ks fn ft fo fs a1 a2 a3 a4 a5 a6 a7 a8 a9 a10 a11 a12 a13 a14 a15)
    (h : tr_J (fun k => tr_o x1 (nI k)) n 2 m) : wL_lawOf_127 post mc ms x1 x3 (nI n) x6 (nI m) (tr_o x1 (nI (m - 1))) kc ks fn ft fo fs a1 a2 a3 a4 a5 a6 a7 a8 a9 a10 a11 a12 a13 a14 a15 :=
  br_c (fun h2 => pk_le n 2 (fun z => tr_162 hn H (tr_Jle h z)) (fun z => tr_pick (W := fun r => wL_lawOf_157 post mc ms x1 x3 (nI n) x6 r kc ks fn ft fo fs a1 a2 a3 a4 a5 a6 a7 a8 a9 a10 a11 a12 a13 a14 a15) (tr_e2 x1) (tr_162 hn H (tr_Jup h h2 z)))) (fun h2 => tr_162 hn H (tr_Jne h h2))
theorem tr_92 {post : Int32 → St0 → Prop} {mc ms kc ks : Nat} {x1 x3 x6 : Int32} {fn ft fo fs : Int32} {a1 a2 a3 a4 a5 a6 a7 a8 a9 a10 a11 a12 a13 a14 a15 : Nat → Int32} {n m : Nat} (hn : n ≤ 4)
    (H : ∀ m, tr_J (fun k => tr_o x1 (nI k)) n 4 m → wL_lawOf_198 post mc ms x3 x6 (nI m) (tr_o x1 (nI (m - 1))) kc ks fn ft fo fs a1 a2 a3 a4 a5 a6 a7 a8 a9 a10 a11 a12 a13 a14 a15)
    (h : tr_J (fun k => tr_o x1 (nI k)) n 1 m) : wL_lawOf_92 post mc ms x1 x3 (nI n) x6 (nI m) (tr_o x1 (nI (m - 1))) kc ks fn ft fo fs a1 a2 a3 a4 a5 a6 a7 a8 a9 a10 a11 a12 a13 a14 a15 :=
  br_c (fun h2 => pk_le n 1 (fun z => tr_127 hn H (tr_Jle h z)) (fun z => tr_pick (W := fun r => wL_lawOf_122 post mc ms x1 x3 (nI n) x6 r kc ks fn ft fo fs a1 a2 a3 a4 a5 a6 a7 a8 a9 a10 a11 a12 a13 a14 a15) (tr_e1 x1) (tr_127 hn H (tr_Jup h h2 z)))) (fun h2 => tr_127 hn H (tr_Jne h h2))
theorem tr_52 {post : Int32 → St0 → Prop} {mc ms kc ks : Nat} {x1 x3 x6 : Int32} {fn ft fo fs : Int32} {a1 a2 a3 a4 a5 a6 a7 a8 a9 a10 a11 a12 a13 a14 a15 : Nat → Int32} {n : Nat} (hn : n ≤ 4) (hn0 : 0 < n)
    (H : ∀ m, tr_J (fun k => tr_o x1 (nI k)) n 4 m → wL_lawOf_198 post mc ms x3 x6 (nI m) (tr_o x1 (nI (m - 1))) kc ks fn ft fo fs a1 a2 a3 a4 a5 a6 a7 a8 a9 a10 a11 a12 a13 a14 a15) : wL_lawOf_52 post mc ms x1 x3 (nI n) x6 kc ks fn ft fo fs a1 a2 a3 a4 a5 a6 a7 a8 a9 a10 a11 a12 a13 a14 a15 :=
  pk_le n 0 (fun z => absurd z (by omega)) (fun _ => tr_pick (W := fun r => wL_lawOf_87 post mc ms x1 x3 (nI n) x6 r kc ks fn ft fo fs a1 a2 a3 a4 a5 a6 a7 a8 a9 a10 a11 a12 a13 a14 a15) (tr_e0 x1) (tr_92 hn H (tr_J1 hn0)))
/-! the run and the questions behind it -/
theorem tr_198off {post : Int32 → St0 → Prop} {mc ms kc ks : Nat} {x1 x3 tg : Int32} {ft fo fs : Int32} {a1 a2 a3 a4 a5 a6 a7 a8 a9 a10 a11 a12 a13 a14 a15 : Nat → Int32} {n m : Nat} (h10 : a1 0 = 0) (h11 : ¬ a1 1 = 0) (h2 : a2 1 = 0) (h3 : a3 0 = 1) (h50 : a5 0 = -1) (h51 : a5 1 = -1) (h6 : ∀ j, a6 j = 0) (h7 : a7 1 = nI n) (hn : n ≤ 4) (hd0 : a10 0 = 0) (hd1 : a10 1 = 0)
    (h8 : a8 1 = x1) (h9 : a9 1 = tg) (ok : tr_ok (fun k => tr_o x1 (nI k)) n m) (hoff : tg &&& x3 = 0) (hp : post 1 ()) : wL_lawOf_198 post mc ms x3 0 (nI m) (tr_o x1 (nI (m - 1))) kc ks 2 ft fo fs a1 a2 a3 a4 a5 a6 a7 a8 a9 a10 a11 a12 a13 a14 a15 := by
  subst h8 h9
  refine tr_run h10 h11 h2 h3 h50 h51 h6 h7 hn hd0 hd1 ok (fun _ b11 b12 b13 b14 g0 g1 g2 g3 => ?_) (fun z => absurd hoff z)
  refine br_t rfl (br_t rfl (tr_result (by decide) (by decide) tr_in1 (br_t rfl (br_t g1 (br_t rfl ?_)))))
  refine tr_attempts (by decide) (by decide) tr_in1 (br_t g3 (tr_times (br_t g2 (br_t rfl ?_))))
  exact tr_result (by decide) (by decide) tr_in0 (br_t rfl (br_t g0 hp))
theorem tr_198on {post : Int32 → St0 → Prop} {mc ms kc ks : Nat} {x1 x3 tg : Int32} {ft fo fs : Int32} {a1 a2 a3 a4 a5 a6 a7 a8 a9 a10 a11 a12 a13 a14 a15 : Nat → Int32} {n m : Nat} (h10 : a1 0 = 0) (h11 : ¬ a1 1 = 0) (h2 : a2 1 = 0) (h3 : a3 0 = 1) (h50 : a5 0 = -1) (h51 : a5 1 = -1) (h6 : ∀ j, a6 j = 0) (h7 : a7 1 = nI n) (hn : n ≤ 4) (hd0 : a10 0 = 0) (hd1 : a10 1 = 0)
    (h8 : a8 1 = x1) (h9 : a9 1 = tg) (ok : tr_ok (fun k => tr_o x1 (nI k)) n m) (hon : ¬ tg &&& x3 = 0) (hp : post 1 ()) : wL_lawOf_198 post mc ms x3 1 (nI m) (tr_o x1 (nI (m - 1))) kc ks 2 ft fo fs a1 a2 a3 a4 a5 a6 a7 a8 a9 a10 a11 a12 a13 a14 a15 := by
  subst h8 h9
  refine tr_run h10 h11 h2 h3 h50 h51 h6 h7 hn hd0 hd1 ok (fun z => absurd z hon) (fun _ s b11 b12 b13 b14 b15 g0 g1 g2 g3 => ?_)
  have Q : ∀ z0, z0 = (if tr_o (a8 1) (nI (m - 1)) = 2 then 1 else 0) → wL_lawOf_220 post mc ms 1 (nI m) (tr_o (a8 1) (nI (m - 1))) z0 (if tr_o (a8 1) (nI (m - 1)) = 2 then 1 else 0) kc ks 2 (nI m) 0 s a1 a2 a3 a4 a5 a6 a7 a8 a9 a10 b11 b12 b13 b14 b15 := by
    intro z0 ez
    refine br_t ez.symm (tr_result (by decide) (by decide) tr_in1 (br_f (by decide) (br_t g1 (br_f (by decide) ?_))))
    refine tr_attempts (by decide) (by decide) tr_in1 (br_t g3 (tr_times (br_t g2 (br_t rfl ?_))))
    exact tr_result (by decide) (by decide) tr_in0 (br_f (by decide) (br_t g0 hp))
  refine br_f (by decide) (br_c (fun z => ?_) (fun z => ?_))
  · exact Q 1 (by rw [if_pos z])
  · exact Q 0 (by rw [if_neg z])
end
section
/-! the set-up: the root, one test below it, its body and tags -/
theorem tr_clear {post : St2 → Prop} {fn ft fo fs : Int32} {a1 a2 a3 a4 a5 a6 a7 a8 a9 a10 a11 a12 a13 a14 a15 : Nat → Int32} {p up t : Int32} (hi : vp_in p 24)
    (hp : post (fn, ft, fo, fs, upd a1 p.toNatClampNeg (vp_nar .boolean t), upd a2 p.toNatClampNeg up, upd a3 p.toNatClampNeg (-1), upd a4 p.toNatClampNeg (-1), upd a5 p.toNatClampNeg (-1), a6, upd a7 p.toNatClampNeg 1, upd a8 p.toNatClampNeg 1, upd a9 p.toNatClampNeg 1, a10, a11, a12, a13, a14, a15)) : wpX_clearNode post (fn, ft, fo, fs, a1, a2, a3, a4, a5, a6, a7, a8, a9, a10, a11, a12, a13, a14, a15) p up t :=
  And.intro hi (nm_e (And.intro hi (nm_e (And.intro hi (nm_e (And.intro hi (nm_e (And.intro hi (nm_e (And.intro hi (nm_e (And.intro hi (nm_e (And.intro hi (nm_e hp)))))))))))))))
theorem tr_b0 : vp_nar .boolean 0 = 0 := by decide
theorem tr_b1 : vp_nar .boolean 1 = 1 := by decide
theorem tr_init {post : St2 → Prop} {gn ft fo fs : Int32}
    (H : ∀ a1 a2 a3 a4 a5 a6 a7 a8 a9 a10 a11 a12 a13 a14 a15 : Nat → Int32, a1 0 = 0 → a4 0 = -1 → a5 0 = -1 → (∀ j, a6 j = 0) → a10 0 = 0 → a10 1 = 0 → post (1, ft, fo, fs, a1, a2, a3, a4, a5, a6, a7, a8, a9, a10, a11, a12, a13, a14, a15)) : wpX_init post 15 504 (gn, ft, fo, fs) := by
  refine And.intro (by decide) ⟨by decide, by decide, by decide, by decide, by decide, by decide, by decide, by decide, by decide, by decide, by decide, by decide, by decide, by decide, by decide, by decide, by decide, by decide, by decide, by decide, by decide, by decide, by decide, by decide, by decide, by decide, by decide, by decide, by decide, tr_clear tr_in0 ?_⟩
  refine H _ _ _ _ _ _ _ _ _ _ _ _ _ _ _ ?_ pk_us pk_us (fun _ => rfl) rfl rfl
  show upd _ (0 : Int32).toNatClampNeg _ (0 : Int32).toNatClampNeg = 0
  rw [pk_us, tr_b0]
theorem tr_test {post : Int32 → St2 → Prop} {ft fo fs : Int32} {a1 a2 a3 a4 a5 a6 a7 a8 a9 a10 a11 a12 a13 a14 a15 : Nat → Int32} (h1 : a1 0 = 0) (h4 : a4 0 = -1)
    (hp : post 1 (2, ft, fo, fs, upd a1 1 1, upd a2 1 0, upd (upd a3 1 (-1)) 0 1, upd (upd a4 1 (-1)) 0 1, upd a5 1 (-1), a6, upd a7 1 1, upd a8 1 1, upd a9 1 1, a10, a11, a12, a13, a14, a15)) : wpX_test post (1, ft, fo, fs, a1, a2, a3, a4, a5, a6, a7, a8, a9, a10, a11, a12, a13, a14, a15) 0 := by
  refine br_f (by decide) (br_t (by decide) (br_t rfl (And.intro tr_in0 (br_t h1 (br_t rfl (br_t (by decide) (tr_clear tr_in1 (And.intro tr_in0 (br_f ?_ (And.intro tr_in0 (nm_e (And.intro tr_in0 (nm_e (nm_r (e' := 2) (by decide) ?_))))))))))))))
  · rw [pk_un (by decide), show a4 (0 : Int32).toNatClampNeg = -1 from h4]
    decide
  · rw [tr_b1]
    exact hp
theorem tr_body {post : Int32 → St2 → Prop} {ft fo fs : Int32} {a1 a2 a3 a4 a5 a6 a7 a8 a9 a10 a11 a12 a13 a14 a15 : Nat → Int32} {n : Nat} {o : Int32} (h1 : ¬ a1 1 = 0) (hn0 : 0 < n) (hn : n ≤ 4) (hp : post 0 (2, ft, fo, fs, a1, a2, a3, a4, a5, a6, upd a7 1 (nI n), upd a8 1 o, a9, a10, a11, a12, a13, a14, a15)) : wpX_body post (2, ft, fo, fs, a1, a2, a3, a4, a5, a6, a7, a8, a9, a10, a11, a12, a13, a14, a15) 1 (nI n) o :=
  br_f (by decide) (br_t (by decide) (br_t rfl (And.intro tr_in1 (br_f h1 (br_t rfl (pk_lt n 1 (fun z => absurd z (by omega)) (fun _ => pk_le n 4 (fun _ => And.intro tr_in1 (nm_e (And.intro tr_in1 (nm_e hp)))) (fun z => absurd z (by omega)))))))))
theorem tr_tags {post : Int32 → St2 → Prop} {ft fo fs : Int32} {a1 a2 a3 a4 a5 a6 a7 a8 a9 a10 a11 a12 a13 a14 a15 : Nat → Int32} {t : Int32} (h1 : ¬ a1 1 = 0) (hp : post 0 (2, ft, fo, fs, a1, a2, a3, a4, a5, a6, a7, a8, upd a9 1 t, a10, a11, a12, a13, a14, a15)) : wpX_tags post (2, ft, fo, fs, a1, a2, a3, a4, a5, a6, a7, a8, a9, a10, a11, a12, a13, a14, a15) 1 t :=
  br_f (by decide) (br_t (by decide) (br_t rfl (And.intro tr_in1 (br_f h1 (br_t rfl (And.intro tr_in1 (nm_e hp)))))))
theorem tr_lawOf {post : Int32 → St0 → Prop} {p0 p1 p2 p3 : Int32} (hp : post 1 ()) : wpL_lawOf post 16 523 () p0 p1 p2 p3 := by
  obtain ⟨j, hj, ej⟩ := pk_andE p0 (m := 3) 2 (by decide)
  have hn : j + 1 ≤ 4 := by omega
  refine And.intro (by decide) ⟨by decide, 15, 504, by decide, by decide, tr_init (fun a1 a2 a3 a4 a5 a6 a7 a8 a9 a10 a11 a12 a13 a14 a15 g1 g4 g5 g6 gd0 gd1 => ?_)⟩
  have e5 : 1 + (p0 &&& 3) = nI (j + 1) := by
    rw [ej, Nat.add_comm]
    exact nI_add 1 j
  have i1 : ¬ upd a1 1 1 1 = 0 := by
    rw [pk_us]
    decide
  have i0 : upd a1 1 1 0 = 0 := (pk_un (by decide)).trans g1
  have i5 : upd a5 1 (-1) 0 = -1 := (pk_un (by decide)).trans g5
  refine nm_r e5 (tr_test g1 g4 (tr_body i1 (Nat.succ_pos j) hn (tr_tags i1 ?_)))
  refine br_c (fun z => tr_52 hn (Nat.succ_pos j) (fun m hm => ?_)) (fun z => tr_52 hn (Nat.succ_pos j) (fun m hm => ?_))
  · exact tr_198off i0 i1 pk_us pk_us i5 pk_us g6 pk_us hn gd0 gd1 pk_us pk_us (tr_Jok hm hn) z hp
  · exact tr_198on i0 i1 pk_us pk_us i5 pk_us g6 pk_us hn gd0 gd1 pk_us pk_us (tr_Jok hm hn) z hp
theorem tr_cell {post : Int32 → Prop} {L : Nat} {xs : Nat → Int32} {u : St0} (p : Nat) (hL : L ≤ 4) (hp : p < 4) (H : ∀ r, post r) : wpL_cellAt post L xs u (nI p) :=
  pk_le L p (fun _ => H _) (fun z => And.intro (pk_in p L z) (H _))
theorem i_vc (xs : Nat → Int32) (L : Nat) (hL : L ≤ 4) : wpL_law (fun r => r = 1) L xs :=
  tr_cell 0 hL (by decide) (fun _ => tr_cell 1 hL (by decide) (fun _ => tr_cell 2 hL (by decide) (fun _ => tr_cell 3 hL (by decide) (fun _ => Exists.intro 16 (Exists.intro 523 ⟨by decide, by decide, tr_lawOf rfl⟩)))))
end
