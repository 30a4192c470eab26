section
/-! the methods, over any state -/
section
variable {sz hg op dp lv kn rs rz : Int32} {a1 a2 a3 a4 a5 a6 a7 a8 a9 a10 a11 a12 a13 a14 : Nat → Int32}

theorem vl_32 {x : Int32} : 3 ≤ x ↔ 2 < x := by
  rw [Int32.le_iff_toInt_le, Int32.lt_iff_toInt_lt]
  have h3 : (3 : Int32).toInt = 3 := by decide
  have h2 : (2 : Int32).toInt = 2 := by decide
  omega
theorem vl_2l {x : Int32} (h : 2 ≤ x) (h2 : ¬ x = 2) : 2 < x := by
  rw [Int32.le_iff_toInt_le] at h
  rw [Int32.lt_iff_toInt_lt]
  have e : ¬ x.toInt = (2 : Int32).toInt := fun z => h2 (Int32.toInt_inj.mp z)
  omega
theorem vl_01 {x : Int32} (h : ¬ x < 0) (h2 : ¬ 2 ≤ x) : x = 0 ∨ x = 1 := by
  rw [Int32.lt_iff_toInt_lt] at h
  rw [Int32.le_iff_toInt_le] at h2
  have e2 : (2 : Int32).toInt = 2 := by decide
  have e1 : (1 : Int32).toInt = 1 := by decide
  have e0 : (0 : Int32).toInt = 0 := by decide
  have hx : x.toInt = 0 ∨ x.toInt = 1 := by omega
  rcases hx with z | z
  · exact Or.inl (Int32.toInt_inj.mp (by rw [z, e0]))
  · exact Or.inr (Int32.toInt_inj.mp (by rw [z, e1]))
theorem vl_ix (x : Int32) : (x < 0 ∨ 3 ≤ x) ∨ ∃ k : Nat, k < 3 ∧ x = nI k := by
  rcases pk_ix x (n := 3) (by decide) with h | h | h
  · exact Or.inl (Or.inl h)
  · exact Or.inl (Or.inr h)
  · exact Or.inr h

theorem vl_isIn_f {post : Int32 → Prop} {x : Int32} (h : x < 0 ∨ 3 ≤ x) (hp : post 0) : wpX_isInput post () x :=
  br_c (fun _ => hp) (fun g => br_t (h.resolve_left g) hp)
theorem vl_isIn_t {post : Int32 → Prop} {k : Nat} (hk : k < 3) (hp : post 1) : wpX_isInput post () (nI k) :=
  br_f (nI_pos (by omega)) (br_f (nI_ge (b := 3) hk (by decide)) hp)

theorem vl_put_f {post : Int32 → St2 → Prop} {x v : Int32} (h : x < 0 ∨ 3 ≤ x) (hp : post (-1) (sz, hg, op, dp, lv, kn, rs, rz, a1, a2, a3, a4, a5, a6, a7, a8, a9, a10, a11, a12, a13, a14)) : wpX_put post (sz, hg, op, dp, lv, kn, rs, rz, a1, a2, a3, a4, a5, a6, a7, a8, a9, a10, a11, a12, a13, a14) x v := by
  unfold wpX_put
  exact vl_isIn_f h (br_t rfl hp)
theorem vl_put_t {post : Int32 → St2 → Prop} {k : Nat} {v : Int32} (hk : k < 3) (h0 : a1 k = 0)
    (hp : post 1 (sz, hg, op, dp, lv, 0, rs, rz, upd a1 k 1, upd a2 (8 * k) v, a3, a4, a5, a6, a7, a8, a9, a10, a11, a12, a13, a14)) : wpX_put post (sz, hg, op, dp, lv, kn, rs, rz, a1, a2, a3, a4, a5, a6, a7, a8, a9, a10, a11, a12, a13, a14) (nI k) v := by
  unfold wpX_put
  have e8 : (8 : Int32) * nI k + 0 = nI (8 * k) := by
    rw [Int32.add_zero]
    exact pk_mul 8 k
  refine vl_isIn_t hk (br_f (by decide) ⟨pk_in k 3 hk, ?_⟩)
  rw [nI_clamp (show k < 2 ^ 31 by omega), h0, e8, nI_clamp (show 8 * k < 2 ^ 31 by omega)]
  refine br_t (by decide) ⟨pk_in k 3 hk, pk_in (8 * k) 24 (by omega), nm_e ⟨pk_in k 3 hk, pk_in k 3 hk, nm_r (e' := upd a1 k 1) rfl ⟨pk_in k 3 hk, ?_⟩⟩⟩
  rw [pk_us]
  exact hp

theorem vl_tak {post : Int32 → Prop} {x : Int32} (h : 2 < x) (h1 : post 1) (h2 : post 2) (h3 : post 3) : wpX_taken post () x :=
  br_t h (br_c (fun _ => h3) (fun _ => br_c (fun _ => h2) (fun _ => br_c (fun _ => h2) (fun _ => br_c (fun _ => h2) (fun _ => h1)))))

theorem vl_fits_out {post : Int32 → Prop} {x a : Int32} (h : (x = 0 ∧ (a < (-99) ∨ 99 < a)) ∨ (x = 1 ∧ (a < 0 ∨ 3 ≤ a))) (hp : post 0) : wpX_fits post () x a := by
  rcases h with ⟨hx, h⟩ | ⟨hx, h⟩
  · subst hx
    exact br_t rfl (br_c (fun _ => hp) (fun g => br_t (h.resolve_left g) hp))
  · subst hx
    exact br_f (by decide) (br_t rfl (br_c (fun _ => hp) (fun g => br_t (h.resolve_left g) hp)))
theorem vl_fits_in {post : Int32 → Prop} {x a : Int32} (h0 : x = 0 → ¬ a < (-99) ∧ ¬ 99 < a) (h1 : x = 1 → ¬ a < 0 ∧ ¬ 3 ≤ a) (hp : post 1) : wpX_fits post () x a :=
  br_c (fun e => br_f (h0 e).1 (br_f (h0 e).2 hp)) (fun _ => br_c (fun e => br_f (h1 e).1 (br_f (h1 e).2 hp)) (fun _ => hp))

/-! the token that is refused: the state stays -/
theorem vl_tok_out {post : Int32 → St2 → Prop} {x a : Int32} (h : x < 0 ∨ 21 < x ∨ (x = 0 ∧ (a < (-99) ∨ 99 < a)) ∨ (x = 1 ∧ (a < 0 ∨ 3 ≤ a)))
    (hp : post (-1) (sz, hg, op, dp, lv, kn, rs, rz, a1, a2, a3, a4, a5, a6, a7, a8, a9, a10, a11, a12, a13, a14)) : wpX_token post (sz, hg, op, dp, lv, kn, rs, rz, a1, a2, a3, a4, a5, a6, a7, a8, a9, a10, a11, a12, a13, a14) x a := by
  unfold wpX_token
  refine br_c (fun _ => hp) (fun g => br_c (fun _ => hp) (fun g2 => ?_))
  exact vl_fits_out ((h.resolve_left g).resolve_left g2) (br_t rfl hp)
theorem vl_tok_el {post : Int32 → St2 → Prop} {a : Int32} (hp : post (-3) (0, hg, 0, dp, lv, kn, rs, rz, a1, a2, a3, a4, a5, a6, a7, a8, a9, a10, a11, a12, a13, a14)) : wpX_token post (0, hg, 0, dp, lv, kn, rs, rz, a1, a2, a3, a4, a5, a6, a7, a8, a9, a10, a11, a12, a13, a14) 2 a := by
  unfold wpX_token
  refine br_f (by decide) (br_f (by decide) (vl_fits_in (fun z => absurd z (by decide)) (fun z => absurd z (by decide)) (br_f (by decide) (br_t (by decide) (br_t rfl ?_)))))
  exact br_c (fun _ => hp) (fun g => br_f g hp)
theorem vl_tok_un {post : Int32 → St2 → Prop} {x a : Int32} (h2 : 2 < x) (h21 : ¬ 21 < x) (hp : post (-4) (0, 0, 0, dp, lv, kn, rs, rz, a1, a2, a3, a4, a5, a6, a7, a8, a9, a10, a11, a12, a13, a14)) : wpX_token post (0, 0, 0, dp, lv, kn, rs, rz, a1, a2, a3, a4, a5, a6, a7, a8, a9, a10, a11, a12, a13, a14) x a := by
  unfold wpX_token
  have hn : ¬ x < 0 := by
    rw [Int32.lt_iff_toInt_lt] at h2 ⊢
    have e2 : (2 : Int32).toInt = 2 := by decide
    have e0 : (0 : Int32).toInt = 0 := by decide
    omega
  have e0 : ¬ x = 0 := fun z => absurd h2 (by rw [z]; decide)
  have e1 : ¬ x = 1 := fun z => absurd h2 (by rw [z]; decide)
  have e2 : ¬ x = 2 := fun z => absurd h2 (by rw [z]; decide)
  refine br_f hn (br_f h21 (vl_fits_in (fun z => absurd z e0) (fun z => absurd z e1) (br_f (by decide) (br_t (by decide) (br_f e2 ?_)))))
  have H : ∀ n : Int32, ¬ 0 ≤ (0 : Int32) - n → wpX_stands (fun r_8 => (((r_8 = 0 → (post (-4) (0, 0, 0, dp, lv, kn, rs, rz, a1, a2, a3, a4, a5, a6, a7, a8, a9, a10, a11, a12, a13, a14))) ∧ (¬ r_8 = 0 → (((n = 0 → (((6 ≤ (0 : Int32) → (post (-5) (0, 0, 0, dp, lv, kn, rs, rz, a1, a2, a3, a4, a5, a6, a7, a8, a9, a10, a11, a12, a13, a14))) ∧ (¬ 6 ≤ (0 : Int32) → (wX_token_86 post x a n 0 0 0 dp lv kn rs rz a1 a2 a3 a4 a5 a6 a7 a8 a9 a10 a11 a12 a13 a14))))) ∧ (¬ n = 0 → (wX_token_86 post x a n 0 0 0 dp lv kn rs rz a1 a2 a3 a4 a5 a6 a7 a8 a9 a10 a11 a12 a13 a14)))))))) (0, 0, 0, dp, lv, kn, rs, rz, a1, a2, a3, a4, a5, a6, a7, a8, a9, a10, a11, a12, a13, a14) x n := by
    intro n hn
    unfold wpX_stands wpX_floor
    refine br_t rfl (br_c (fun _ => br_t (by decide) (br_t rfl hp)) (fun _ => br_f hn (br_t rfl hp)))
  unfold wX_token_52
  exact vl_tak h2 (H 1 (by decide)) (H 2 (by decide)) (H 3 (by decide))

/-! the token that is taken -/
theorem vl_tok_const {post : Int32 → St2 → Prop} {a : Int32} (h : ¬ a < (-99)) (h2 : ¬ 99 < a)
    (hp : post 1 (1, 1, 0, dp, lv, 0, rs, rz, a1, a2, upd a3 0 0, upd a4 0 a, upd a5 0 0, a6, a7, a8, a9, a10, a11, a12, a13, a14)) : wpX_token post (0, 0, 0, dp, lv, kn, rs, rz, a1, a2, a3, a4, a5, a6, a7, a8, a9, a10, a11, a12, a13, a14) 0 a := by
  unfold wpX_token
  refine br_f (by decide) (br_f (by decide) (vl_fits_in (fun _ => ⟨h, h2⟩) (fun z => absurd z (by decide)) (br_f (by decide) (br_t (by decide) (br_f (by decide) ?_)))))
  unfold wX_token_52
  refine br_f (by decide) ?_
  unfold wpX_stands
  refine br_t rfl (br_f (by decide) (br_t (by decide) ⟨1, br_t (by decide) (br_f (by decide) (br_t rfl (br_f (by decide) ?_)))⟩))
  unfold wX_token_86
  refine br_f (by decide) (br_f (by decide) ?_)
  unfold wX_token_109
  refine ⟨pk_in 0 40 (by omega), nm_r (e' := upd a3 0 0) rfl ⟨pk_in 0 40 (by omega), nm_r (e' := upd a4 0 a) rfl (nm_r (e' := (1 : Int32)) (by decide) ?_)⟩⟩
  unfold wpX_follow
  refine br_f (by decide) (br_f (by decide) (br_f (by decide) ?_))
  unfold wX_follow_62
  refine nm_r (e' := (0 : Int32)) (by decide) (br_f (by decide) (br_t (by decide) ⟨pk_in 0 6 (by omega), nm_r (e' := upd a5 0 0) rfl (nm_r (e' := (1 : Int32)) (by decide) ?_)⟩))
  exact hp
theorem vl_tok_in {post : Int32 → St2 → Prop} {j : Nat} (hj : j < 3)
    (hp : post 1 (1, 1, 0, dp, lv, 0, rs, rz, a1, a2, upd a3 0 1, upd a4 0 (nI j), upd a5 0 1, a6, a7, a8, a9, a10, a11, a12, a13, a14)) : wpX_token post (0, 0, 0, dp, lv, kn, rs, rz, a1, a2, a3, a4, a5, a6, a7, a8, a9, a10, a11, a12, a13, a14) 1 (nI j) := by
  unfold wpX_token
  refine br_f (by decide) (br_f (by decide) (vl_fits_in (fun z => absurd z (by decide)) (fun _ => ⟨nI_pos (by omega), nI_ge (b := 3) hj (by decide)⟩) (br_f (by decide) (br_t (by decide) (br_f (by decide) ?_)))))
  unfold wX_token_52
  refine br_f (by decide) ?_
  unfold wpX_stands
  refine br_t rfl (br_f (by decide) (br_t (by decide) ⟨1, br_t (by decide) (br_f (by decide) (br_t rfl (br_f (by decide) ?_)))⟩))
  unfold wX_token_86
  refine br_f (by decide) (br_f (by decide) ?_)
  unfold wX_token_109
  refine ⟨pk_in 0 40 (by omega), nm_r (e' := upd a3 0 1) rfl ⟨pk_in 0 40 (by omega), nm_r (e' := upd a4 0 (nI j)) rfl (nm_r (e' := (1 : Int32)) (by decide) ?_)⟩⟩
  unfold wpX_follow
  refine br_f (by decide) (br_f (by decide) (br_f (by decide) ?_))
  unfold wX_follow_62
  refine nm_r (e' := (0 : Int32)) (by decide) (br_t rfl ⟨pk_in 0 6 (by omega), nm_r (e' := upd a5 0 1) rfl (nm_r (e' := (1 : Int32)) (by decide) ?_)⟩)
  exact hp
end
end
section
/-! carrying out: what 'work' leaves -/
section
variable {sz hg op dp lv kn rs rz : Int32} {a1 a2 a3 a4 a5 a6 a7 a8 a9 a10 a11 a12 a13 a14 : Nat → Int32}

theorem vl_work_known {post : St2 → Prop} (hp : post (sz, hg, op, dp, lv, 1, rs, rz, a1, a2, a3, a4, a5, a6, a7, a8, a9, a10, a11, a12, a13, a14)) : wpX_work post (sz, hg, op, dp, lv, 1, rs, rz, a1, a2, a3, a4, a5, a6, a7, a8, a9, a10, a11, a12, a13, a14) := by
  unfold wpX_work
  exact br_f (by decide) hp
theorem vl_work_empty {post : St2 → Prop} (hp : post (sz, 0, 0, dp, lv, 1, 0, 0, a1, a2, a3, a4, a5, a6, a7, a8, a9, a10, a11, a12, a13, a14)) : wpX_work post (sz, 0, 0, dp, lv, 0, rs, rz, a1, a2, a3, a4, a5, a6, a7, a8, a9, a10, a11, a12, a13, a14) := by
  unfold wpX_work
  exact br_t rfl (br_f (by decide) (br_f (by decide) hp))

theorem vl_push0 {post : St2 → Prop} {j : Nat} (hj : j < 3) (h1 : a1 j = 0)
    (H : ∀ b7, post (sz, hg, op, 1, lv, kn, rs, rz, a1, a2, a3, a4, a5, a6, b7, upd a8 0 0, a9, a10, a11, a12, a13, a14)) : wpX_pushInput post (sz, hg, op, 0, lv, kn, rs, rz, a1, a2, a3, a4, a5, a6, a7, a8, a9, a10, a11, a12, a13, a14) (nI j) := by
  unfold wpX_pushInput
  have cj : (nI j).toNatClampNeg = j := nI_clamp (by omega)
  refine ⟨pk_in 0 7 (by omega), nm_e ⟨pk_in j 3 hj, pk_in 0 448 (by omega), nm_r (e' := upd a8 0 0) (by rw [cj, h1]; rfl) ⟨0 + 1, ?_⟩⟩⟩
  unfold wX_pushInput_30
  rw [cj, h1]
  exact ⟨pk_in j 3 hj, br_t (by decide) (nm_r (e' := (1 : Int32)) (by decide) (H _))⟩
theorem vl_push1 {post : St2 → Prop} {j : Nat} (hj : j < 3) (h1 : a1 j = 1)
    (H : ∀ b7, post (sz, hg, op, 1, lv, kn, rs, rz, a1, a2, a3, a4, a5, a6, b7, upd a8 0 1, upd a9 0 (a2 (8 * j)), a10, a11, a12, a13, a14)) : wpX_pushInput post (sz, hg, op, 0, lv, kn, rs, rz, a1, a2, a3, a4, a5, a6, a7, a8, a9, a10, a11, a12, a13, a14) (nI j) := by
  unfold wpX_pushInput
  have cj : (nI j).toNatClampNeg = j := nI_clamp (by omega)
  have e8 : (8 : Int32) * nI j + 0 = nI (8 * j) := by
    rw [Int32.add_zero]
    exact pk_mul 8 j
  have c8 : (nI (8 * j)).toNatClampNeg = 8 * j := nI_clamp (by omega)
  refine ⟨pk_in 0 7 (by omega), nm_e ⟨pk_in j 3 hj, pk_in 0 448 (by omega), nm_r (e' := upd a8 0 1) (by rw [cj, h1]; rfl) ⟨0 + 1 + 1, ?_⟩⟩⟩
  unfold wX_pushInput_30
  rw [cj, h1, e8, c8]
  refine ⟨pk_in j 3 hj, br_f (by decide) ⟨pk_in (8 * j) 24 (by omega), pk_in 0 3584 (by omega), nm_r (e' := upd a9 0 (a2 (8 * j))) rfl (nm_r (e' := (1 : Int32)) (by decide) ?_)⟩⟩
  unfold wX_pushInput_30
  rw [cj, h1]
  exact ⟨pk_in j 3 hj, br_t (by decide) (nm_r (e' := (1 : Int32)) (by decide) (H _))⟩

theorem vl_work_const {post : St2 → Prop} (h3 : a3 0 = 0) (h5 : a5 0 = 0)
    (H : ∀ dp lv a7 a8 a10 a14, a14 0 = a4 0 → post (1, 1, 0, dp, lv, 1, 1, 1, a1, a2, a3, a4, a5, a6, a7, a8, a9, a10, a11, a12, a13, a14)) : wpX_work post (1, 1, 0, dp, lv, 0, rs, rz, a1, a2, a3, a4, a5, a6, a7, a8, a9, a10, a11, a12, a13, a14) := by
  have c0 : (0 : Int32).toNatClampNeg = 0 := by decide
  unfold wpX_work
  refine br_t rfl (br_f (by decide) (br_t rfl (nm_e ⟨0 + 1 + 1, ?_⟩)))
  unfold wX_work_58
  refine br_f (by decide) ⟨pk_in 0 40 (by omega), pk_in 0 40 (by omega), ?_⟩
  rw [c0, h3]
  unfold wpX_carry
  refine br_t rfl ⟨pk_in 0 7 (by omega), nm_e ⟨pk_in 0 448 (by omega), nm_r (e' := upd a8 0 (a4 0)) rfl (nm_r (e' := (1 : Int32)) (by decide) (nm_r (e' := (1 : Int32)) (by decide) ?_))⟩⟩
  unfold wX_work_58
  refine br_t (by decide) (br_t h5 ?_)
  unfold wX_work_103
  refine br_t h5 ⟨0 + 1 + 1, ?_⟩
  unfold wX_work_131
  refine br_f (by decide) (br_t h5 ⟨pk_in 0 8 (by omega), nm_r (e' := upd a14 0 (a4 0)) rfl (nm_r (e' := (1 : Int32)) (by decide) ?_)⟩)
  unfold wX_work_131
  exact br_t (by decide) (H _ _ _ _ _ _ pk_us)
theorem vl_work_in0 {post : St2 → Prop} {j : Nat} (hj : j < 3) (h3 : a3 0 = 1) (h4 : a4 0 = nI j) (h5 : a5 0 = 1) (h1 : a1 j = 0)
    (H : ∀ dp lv a7 a8 a10, post (1, 1, 0, dp, lv, 1, 2, 0, a1, a2, a3, a4, a5, a6, a7, a8, a9, a10, a11, a12, a13, a14)) : wpX_work post (1, 1, 0, dp, lv, 0, rs, rz, a1, a2, a3, a4, a5, a6, a7, a8, a9, a10, a11, a12, a13, a14) := by
  have c0 : (0 : Int32).toNatClampNeg = 0 := by decide
  have n5 : ¬ a5 0 = 0 := by rw [h5]; decide
  unfold wpX_work
  refine br_t rfl (br_f (by decide) (br_t rfl (nm_e ⟨0 + 1 + 1, ?_⟩)))
  unfold wX_work_58
  refine br_f (by decide) ⟨pk_in 0 40 (by omega), pk_in 0 40 (by omega), ?_⟩
  rw [c0, h3, h4]
  unfold wpX_carry
  refine br_f (by decide) (br_t rfl (vl_push0 hj h1 (fun b7 => nm_r (e' := (1 : Int32)) (by decide) ?_)))
  unfold wX_work_58
  refine br_t (by decide) (br_f n5 ?_)
  unfold wX_work_103
  refine br_f n5 (nm_r (e' := (0 : Int32)) rfl ⟨0 + 1, ?_⟩)
  unfold wX_work_131
  exact br_t (by decide) (H _ _ _ _ _)
theorem vl_work_in1 {post : St2 → Prop} {j : Nat} (hj : j < 3) (h3 : a3 0 = 1) (h4 : a4 0 = nI j) (h5 : a5 0 = 1) (h1 : a1 j = 1)
    (H : ∀ dp lv a7 a8 a9 a10 a14, a14 0 = a2 (8 * j) → post (1, 1, 0, dp, lv, 1, 2, 1, a1, a2, a3, a4, a5, a6, a7, a8, a9, a10, a11, a12, a13, a14)) : wpX_work post (1, 1, 0, dp, lv, 0, rs, rz, a1, a2, a3, a4, a5, a6, a7, a8, a9, a10, a11, a12, a13, a14) := by
  have c0 : (0 : Int32).toNatClampNeg = 0 := by decide
  have n5 : ¬ a5 0 = 0 := by rw [h5]; decide
  unfold wpX_work
  refine br_t rfl (br_f (by decide) (br_t rfl (nm_e ⟨0 + 1 + 1, ?_⟩)))
  unfold wX_work_58
  refine br_f (by decide) ⟨pk_in 0 40 (by omega), pk_in 0 40 (by omega), ?_⟩
  rw [c0, h3, h4]
  unfold wpX_carry
  refine br_f (by decide) (br_t rfl (vl_push1 hj h1 (fun b7 => nm_r (e' := (1 : Int32)) (by decide) ?_)))
  unfold wX_work_58
  refine br_t (by decide) (br_f n5 ?_)
  unfold wX_work_103
  refine br_f n5 (nm_r (e' := (1 : Int32)) rfl ⟨0 + 1 + 1, ?_⟩)
  unfold wX_work_131
  refine br_f (by decide) (br_f n5 ⟨pk_in 0 3584 (by omega), pk_in 0 8 (by omega), nm_r (e' := upd a14 0 (a2 (8 * j))) rfl (nm_r (e' := (1 : Int32)) (by decide) ?_)⟩)
  unfold wX_work_131
  exact br_t (by decide) (H _ _ _ _ _ _ _ pk_us)

/-! store, over a result that is known -/
theorem vl_store_ok {post : Int32 → St2 → Prop} {k l : Nat} (hk : k < 3) (hl : l ≤ 1) (hr : ¬ rs = 0)
    (H : ∀ a1 a2, post (nI l) (sz, hg, op, dp, lv, 0, rs, nI l, a1, a2, a3, a4, a5, a6, a7, a8, a9, a10, a11, a12, a13, a14)) : wpX_store post (sz, hg, op, dp, lv, 1, rs, nI l, a1, a2, a3, a4, a5, a6, a7, a8, a9, a10, a11, a12, a13, a14) (nI k) := by
  unfold wpX_store
  have e8 : (8 : Int32) * nI k + 0 = nI (8 * k) := by
    rw [Int32.add_zero]
    exact pk_mul 8 k
  refine vl_isIn_t hk (br_f (by decide) (vl_work_known (br_f hr ⟨pk_in k 3 hk, nm_e ⟨0 + 1 + 1, ?_⟩⟩)))
  unfold wX_store_35
  refine pk_le l 0 (fun z => H _ _) (fun z => ⟨pk_in 0 8 (by omega), pk_in (8 * k) 24 (by omega) e8, nm_e (nm_r (e' := (1 : Int32)) (by decide) ?_)⟩)
  unfold wX_store_35
  exact pk_le l 1 (fun z => H _ _) (fun z => absurd z (by omega))
end
end
section
/-! the law, from its end to its head -/
section
variable {sz hg op dp lv kn rs rz : Int32} {a1 a2 a3 a4 a5 a6 a7 a8 a9 a10 a11 a12 a13 a14 : Nat → Int32}
variable {P : Int32 → St0 → Prop} {mc ms kc ks : Nat} {x0 x1 x2 x3 x4 x6 x8 z : Int32}

/-- x6 is the law's 'is' -/
def vl_is (x0 x6 : Int32) : Prop := (x6 = 0 ∧ (x0 < 0 ∨ 3 ≤ x0)) ∨ (x6 = 1 ∧ ∃ k : Nat, k < 3 ∧ x0 = nI k)

theorem vl_241_bad (h6 : vl_is x0 x6) (hP : P 1 ()) : wL_lawOf_241 P mc ms x0 x6 (-1) z z kc ks sz hg op dp lv 1 0 rz a1 a2 a3 a4 a5 a6 a7 a8 a9 a10 a11 a12 a13 a14 := by
  unfold wL_lawOf_241
  refine br_t rfl ?_
  unfold wpX_store
  rcases h6 with ⟨e, h⟩ | ⟨e, k, hk, ek⟩
  · exact vl_isIn_f h (br_t rfl (br_t e (br_t rfl hP)))
  · subst ek
    subst e
    exact vl_isIn_t hk (br_f (by decide) (vl_work_known (br_t rfl (br_f (by decide) (br_f (by decide) (br_t rfl hP))))))
theorem vl_241_ok {l : Nat} (hl : l ≤ 1) (hr : ¬ rs = 0) (h6 : vl_is x0 x6) (hP : P 1 ()) : wL_lawOf_241 P mc ms x0 x6 (nI l) z z kc ks sz hg op dp lv 1 rs (nI l) a1 a2 a3 a4 a5 a6 a7 a8 a9 a10 a11 a12 a13 a14 := by
  unfold wL_lawOf_241
  refine br_t rfl ?_
  rcases h6 with ⟨e, h⟩ | ⟨e, k, hk, ek⟩
  · unfold wpX_store
    exact vl_isIn_f h (br_t rfl (br_t e (br_t rfl hP)))
  · subst ek
    subst e
    exact vl_store_ok hk hl hr (fun _ _ => br_f (by decide) (br_t (nI_pos' (by omega)) (br_t rfl hP)))

theorem vl_196_bad (h6 : vl_is x0 x6) (hP : P 1 ()) : wL_lawOf_196 P mc ms x0 x1 x2 x3 x4 x6 (-1) kc ks sz hg op dp lv 1 0 0 a1 a2 a3 a4 a5 a6 a7 a8 a9 a10 a11 a12 a13 a14 := by
  unfold wL_lawOf_196 wpX_length
  refine vl_work_known (br_t rfl (br_t rfl ?_))
  unfold wpX_result
  refine vl_work_known ?_
  have K : wL_lawOf_240 P mc ms x0 x6 (-1) 0 kc ks sz hg op dp lv 1 0 0 a1 a2 a3 a4 a5 a6 a7 a8 a9 a10 a11 a12 a13 a14 := by
    unfold wL_lawOf_240
    exact vl_241_bad h6 hP
  exact br_c (fun _ => br_f (by decide) K) (fun g => br_t (Int32.not_lt.mp g) (br_f (by decide) K))

theorem vl_196_ok {l : Nat} (hl : l ≤ 1) (hr : ¬ rs = 0) (hv : l = 1 → (x2 = 0 → a14 0 = x3) ∧ (¬ x2 = 0 → a14 0 = x1)) (h6 : vl_is x0 x6) (hP : P 1 ()) :
    wL_lawOf_196 P mc ms x0 x1 x2 x3 x4 x6 (nI l) kc ks sz hg op dp lv 1 rs (nI l) a1 a2 a3 a4 a5 a6 a7 a8 a9 a10 a11 a12 a13 a14 := by
  unfold wL_lawOf_196 wpX_length
  refine vl_work_known (br_f hr (br_t rfl ?_))
  unfold wpX_result
  refine vl_work_known ?_
  have c0 : (0 : Int32).toNatClampNeg = 0 := by decide
  by_cases hc : l = 1 ∧ x4 = 0
  · obtain ⟨hc1, hc2⟩ := hc
    subst hc1
    subst hc2
    have hv' := hv rfl
    refine br_f (by decide) (br_f (by decide) ⟨pk_in 0 8 (by omega), br_t rfl (br_t rfl (br_c (fun e => ?_) (fun e => ?_)))⟩)
    · rw [c0, hv'.1 e]
      exact vl_241_ok (by omega) hr h6 hP
    · rw [c0, hv'.2 e]
      exact vl_241_ok (by omega) hr h6 hP
  · have K : wL_lawOf_240 P mc ms x0 x6 (nI l) 0 kc ks sz hg op dp lv 1 rs (nI l) a1 a2 a3 a4 a5 a6 a7 a8 a9 a10 a11 a12 a13 a14 := by
      unfold wL_lawOf_240
      exact vl_241_ok hl hr h6 hP
    refine br_c (fun _ => ?_) (fun g => br_c (fun _ => ?_) (fun g2 => ?_))
    · exact pk_eq l 1 (fun e => br_f (fun e4 => hc ⟨e, e4⟩) K) (fun _ => K)
    · exact pk_eq l 1 (fun e => br_f (fun e4 => hc ⟨e, e4⟩) K) (fun _ => K)
    · refine absurd ?_ hc
      obtain ⟨j, hj, e⟩ := nI_of g
      subst e
      rw [nI_leI (by omega) hj] at g2
      have hj0 : j = 0 := by omega
      subst hj0
      exact ⟨by omega, rfl⟩

theorem vl_124_bad (h8 : ¬ x8 = 1) (ht : ∀ post : Int32 → St2 → Prop, post x8 (sz, 0, 0, dp, lv, 0, rs, rz, a1, a2, a3, a4, a5, a6, a7, a8, a9, a10, a11, a12, a13, a14) → wpX_token post (sz, 0, 0, dp, lv, 0, rs, rz, a1, a2, a3, a4, a5, a6, a7, a8, a9, a10, a11, a12, a13, a14) x2 x3) (h6 : vl_is x0 x6) (hP : P 1 ()) :
    wL_lawOf_124 P mc ms x0 x1 x2 x3 x4 x6 x8 kc ks sz 0 0 dp lv 0 rs rz a1 a2 a3 a4 a5 a6 a7 a8 a9 a10 a11 a12 a13 a14 := by
  unfold wL_lawOf_124
  refine ht _ (br_t rfl ?_)
  unfold wpX_sort
  refine vl_work_empty (br_f h8 ?_)
  unfold wL_lawOf_162
  exact br_t rfl (br_f h8 (vl_196_bad h6 hP))

theorem vl_124_const (h : ¬ x3 < (-99)) (h2 : ¬ 99 < x3) (h6 : vl_is x0 x6) (hP : P 1 ()) :
    wL_lawOf_124 P mc ms x0 x1 0 x3 x4 x6 1 kc ks 0 0 0 dp lv kn rs rz a1 a2 a3 a4 a5 a6 a7 a8 a9 a10 a11 a12 a13 a14 := by
  unfold wL_lawOf_124
  refine vl_tok_const h h2 (br_t rfl ?_)
  unfold wpX_sort
  refine vl_work_const pk_us pk_us (fun dp lv a7 a8 a10 a14 h14 => br_t rfl (br_t rfl ?_))
  rw [pk_us] at h14
  unfold wL_lawOf_162
  refine br_t rfl (br_t rfl (br_t rfl ?_))
  unfold wL_lawOf_191
  exact vl_196_ok (l := 1) (by omega) (by decide) (fun _ => ⟨fun _ => h14, fun g => absurd rfl g⟩) h6 hP

theorem vl_124_in {j : Nat} (hj : j < 3) (hA : x6 = 0 ∨ ¬ nI j = x0 → a1 j = 0) (hB : ¬ x6 = 0 → nI j = x0 → a1 j = 1 ∧ a2 (8 * j) = x1) (h6 : vl_is x0 x6) (hP : P 1 ()) :
    wL_lawOf_124 P mc ms x0 x1 1 (nI j) x4 x6 1 kc ks 0 0 0 dp lv kn rs rz a1 a2 a3 a4 a5 a6 a7 a8 a9 a10 a11 a12 a13 a14 := by
  unfold wL_lawOf_124
  refine vl_tok_in hj (br_t rfl ?_)
  unfold wpX_sort
  by_cases hc : x6 = 0 ∨ ¬ nI j = x0
  · refine vl_work_in0 hj pk_us pk_us pk_us (hA hc) (fun dp lv a7 a8 a10 => br_t rfl (br_f (by decide) ?_))
    unfold wL_lawOf_162
    have K : wL_lawOf_195 P mc ms x0 x1 1 (nI j) x4 x6 kc ks 1 1 0 dp lv 1 2 0 a1 a2 (upd a3 0 1) (upd a4 0 (nI j)) (upd a5 0 1) a6 a7 a8 a9 a10 a11 a12 a13 a14 := by
      unfold wL_lawOf_195
      exact vl_196_ok (l := 0) (by omega) (by decide) (fun z => absurd z (by omega)) h6 hP
    exact br_t rfl (br_t rfl (br_f (by decide) (br_c (fun _ => K) (fun g => br_f (hc.resolve_left g) K))))
  · have n6 : ¬ x6 = 0 := fun z => hc (Or.inl z)
    have nj : nI j = x0 := Decidable.byContradiction (fun z => hc (Or.inr z))
    obtain ⟨hb1, hb2⟩ := hB n6 nj
    refine vl_work_in1 hj pk_us pk_us pk_us hb1 (fun dp lv a7 a8 a9 a10 a14 h14 => br_t rfl (br_f (by decide) ?_))
    rw [hb2] at h14
    unfold wL_lawOf_162
    refine br_t rfl (br_t rfl (br_f (by decide) (br_f n6 (br_t nj ?_))))
    unfold wL_lawOf_191
    exact vl_196_ok (l := 1) (by omega) (by decide) (fun _ => ⟨fun g => absurd g (by decide), fun _ => h14⟩) h6 hP

theorem vl_87 (h : x2 < 0 ∨ 21 < x2 ∨ (x2 = 0 ∧ (x3 < (-99) ∨ 99 < x3)) ∨ (x2 = 1 ∧ (x3 < 0 ∨ 3 ≤ x3))) (h6 : vl_is x0 x6) (hP : P 1 ()) :
    wL_lawOf_87 P mc ms x0 x1 x2 x3 x4 x6 kc ks 0 0 0 dp lv 0 rs rz a1 a2 a3 a4 a5 a6 a7 a8 a9 a10 a11 a12 a13 a14 := by
  unfold wL_lawOf_87 wL_lawOf_92
  exact br_f (by decide) (vl_124_bad (by decide) (fun post hp => vl_tok_out h hp) h6 hP)

theorem vl_42 (hI : ∀ j : Nat, j < 3 → (x6 = 0 ∨ ¬ nI j = x0 → a1 j = 0) ∧ (¬ x6 = 0 → nI j = x0 → a1 j = 1 ∧ a2 (8 * j) = x1)) (h6 : vl_is x0 x6) (hP : P 1 ()) :
    wL_lawOf_42 P mc ms x0 x1 x2 x3 x4 x6 z z kc ks 0 0 0 dp lv 0 rs rz a1 a2 a3 a4 a5 a6 a7 a8 a9 a10 a11 a12 a13 a14 := by
  unfold wL_lawOf_42
  refine br_t rfl (br_c (fun g => vl_87 (Or.inl g) h6 hP) (fun g => br_c (fun g2 => vl_87 (Or.inr (Or.inl g2)) h6 hP) (fun g2 => br_c (fun e => ?_) (fun e => ?_))))
  · refine br_c (fun h => vl_87 (Or.inr (Or.inr (Or.inl ⟨e, Or.inl h⟩))) h6 hP) (fun h => br_c (fun h2 => vl_87 (Or.inr (Or.inr (Or.inl ⟨e, Or.inr h2⟩))) h6 hP) (fun h2 => ?_))
    subst e
    unfold wL_lawOf_73
    refine br_f (by decide) ?_
    unfold wL_lawOf_91 wL_lawOf_92
    exact br_t rfl (br_f (by decide) (vl_124_const h h2 h6 hP))
  · unfold wL_lawOf_73
    refine br_c (fun e1 => br_c (fun h => vl_87 (Or.inr (Or.inr (Or.inr ⟨e1, Or.inl h⟩))) h6 hP) (fun h => br_c (fun h2 => ?_) (fun h2 => vl_87 (Or.inr (Or.inr (Or.inr ⟨e1, Or.inr (vl_32.mpr (Int32.not_le.mp h2))⟩))) h6 hP))) (fun e1 => ?_)
    · subst e1
      rcases vl_ix x3 with (z | z) | ⟨j, hj, ej⟩
      · exact absurd z h
      · exact absurd h2 (Int32.not_le.mpr (vl_32.mp z))
      · subst ej
        unfold wL_lawOf_91 wL_lawOf_92
        exact br_t rfl (br_f (by decide) (vl_124_in hj (hI j hj).1 (hI j hj).2 h6 hP))
    · unfold wL_lawOf_91 wL_lawOf_92
      refine br_t rfl (br_c (fun h2 => br_c (fun e2 => ?_) (fun e2 => ?_)) (fun h2 => ?_))
      · subst e2
        exact vl_124_bad (by decide) (fun post hp => vl_tok_el hp) h6 hP
      · exact vl_124_bad (by decide) (fun post hp => vl_tok_un (vl_2l h2 e2) g2 hp) h6 hP
      · rcases vl_01 g h2 with z | z
        · exact absurd z e
        · exact absurd z e1
end

section
variable {P : Int32 → St0 → Prop}
theorem vl_lawOf (i v kind a place : Int32) (hP : P 1 ()) : wpL_lawOf P 100 10000 () i v kind a place := by
  unfold wpL_lawOf
  refine ⟨by omega, by omega, 50, 5000, by omega, by omega, ?_⟩
  unfold wpX_init
  refine ⟨by omega, by omega, by omega, by omega, by omega, by omega, by omega, by omega, by omega, by omega, by omega, by omega, by omega, by omega, by omega, by omega, by omega, by omega, by omega, by omega, by omega, by omega, by omega, by omega, by omega, by omega, by omega, by omega, ?_⟩
  rcases vl_ix i with h | ⟨k, hk, ek⟩
  · have K : wL_lawOf_22 P 100 10000 i v kind a place (1 + 50) (22 + 5000) 0 0 0 0 0 0 0 0 (fun _ => 0) (fun _ => 0) (fun _ => 0) (fun _ => 0) (fun _ => 0) (fun _ => 0) (fun _ => 0) (fun _ => 0) (fun _ => 0) (fun _ => 0) (fun _ => 0) (fun _ => 0) (fun _ => 0) (fun _ => 0) := by
      unfold wL_lawOf_22 wL_lawOf_23
      exact vl_put_f h (br_t rfl (vl_42 (fun j hj => ⟨fun _ => rfl, fun z => absurd rfl z⟩) (Or.inl ⟨rfl, h⟩) hP))
    exact br_c (fun _ => K) (fun g => br_t (vl_32.mp (h.resolve_left g)) K)
  · subst ek
    refine br_f (nI_pos (by omega)) (br_f (nI_nlt (b := k) (a := 2) (by omega) (by decide)) ?_)
    unfold wL_lawOf_23
    refine vl_put_t hk rfl (br_f (by decide) (vl_42 (fun j hj => ⟨fun z => ?_, fun _ z => ?_⟩) (Or.inr ⟨rfl, k, hk, rfl⟩) hP))
    · have hjk : j ≠ k := by
        intro e
        subst e
        rcases z with z | z
        · exact absurd z (by decide)
        · exact z rfl
      rw [pk_un hjk]
    · have hjk : j = k := (nI_eq (by omega) (by omega)).mp z
      subst hjk
      exact ⟨pk_us, pk_us⟩

theorem vl_cell {post : Int32 → Prop} {L : Nat} {xs : Nat → Int32} (c : Nat) (hc : c < 5) (hL : L ≤ 5) (h : ∀ r, post r) : wpL_cellAt post L xs () (nI c) :=
  pk_le L c (fun _ => h _) (fun z => ⟨pk_in c L z, h _⟩)
end

theorem i_vc (xs : Nat → Int32) (L : Nat) (hL : L ≤ 5) : wpL_law (fun r => r = 1) L xs := by
  unfold wpL_law
  exact vl_cell 0 (by omega) hL (fun r1 => vl_cell 1 (by omega) hL (fun r2 => vl_cell 2 (by omega) hL (fun r3 => vl_cell 3 (by omega) hL (fun r4 => vl_cell 4 (by omega) hL (fun r5 => ⟨100, 10000, by omega, by omega, vl_lawOf r1 r2 r3 r4 r5 rfl⟩)))))
end
