section
/-! ===== small facts of ints and arrays ===== -/
theorem dk_pos {p : Int32} (h : ¬ p < 0) (hp : ¬ p = 0) : 0 < p := by
  obtain ⟨j, hj, rfl⟩ := nI_of h
  have h0 : 0 < j := by
    rcases Nat.eq_zero_or_pos j with z | z
    · subst z; exact absurd nI_0 hp
    · exact z
  exact nI_lt h0 hj
theorem dk_n0 {n : Int32} (h : ¬ n < 1) : ¬ n ≤ 0 := by
  intro h2
  have e0 : (0 : Int32).toInt = 0 := by decide
  have e1 : (1 : Int32).toInt = 1 := by decide
  rw [Int32.lt_iff_toInt_lt] at h
  rw [Int32.le_iff_toInt_le] at h2
  omega
theorem dk_n0' {n : Int32} (h : ¬ n < 0) (h1 : ¬ n = 0) : ¬ n ≤ 0 := by
  intro h2
  have e0 : (0 : Int32).toInt = 0 := by decide
  rw [Int32.lt_iff_toInt_lt] at h
  rw [Int32.le_iff_toInt_le] at h2
  exact h1 (Int32.toInt_inj.mp (by omega))
theorem dk_n1 {n : Int32} (h : ¬ n < 1) (h1 : ¬ n = 1) : ¬ n ≤ 1 := by
  intro h2
  have e1 : (1 : Int32).toInt = 1 := by decide
  rw [Int32.lt_iff_toInt_lt] at h
  rw [Int32.le_iff_toInt_le] at h2
  exact h1 (Int32.toInt_inj.mp (by omega))
theorem dk_n1' {n : Int32} (h : ¬ n < 0) (h0 : ¬ n = 0) (h1 : ¬ n = 1) : ¬ n ≤ 1 := by
  have e0 : (0 : Int32).toInt = 0 := by decide
  have e1 : (1 : Int32).toInt = 1 := by decide
  refine dk_n1 (fun z => ?_) h1
  rw [Int32.lt_iff_toInt_lt] at h z
  exact h0 (Int32.toInt_inj.mp (by omega))
theorem dk_gt {n k : Int32} (h : ¬ n ≤ k) : k < n := Int32.not_le.mp h
theorem dk_z {s : Nat → Int32} {i k : Nat} {v : Int32} (hk : k = i) (h : 0 < i → s 0 = v) : 0 < i + 1 → upd s k v 0 = v := by
  intro _
  by_cases e : 0 = k
  · rw [← e, pk_us]
  · rw [pk_un e]
    exact h (by omega)
theorem dk_u {s : Nat → Int32} {k : Nat} {v : Int32} {N : Nat} (h : ∀ j, j < N → s j = v) : ∀ j, j < N → upd s k v j = v := by
  intro j hj
  by_cases e : j = k
  · rw [e, pk_us]
  · rw [pk_un e]
    exact h j hj
theorem dk_f {s : Nat → Int32} {i k : Nat} {v : Int32} (hk : k = i) (h : ∀ j, j < i → s j = v) : ∀ j, j < i + 1 → upd s k v j = v := by
  intro j hj
  by_cases e : j = k
  · rw [e, pk_us]
  · rw [pk_un e]
    exact h j (by omega)
/-- a mark's letter and the letter four further are one place -/
theorem dk_and4 (x : Int32) : (x + 4) &&& 3 = x &&& 3 := by
  rw [pk_and (x + 4) (m := 3) 2 (by decide), pk_and x (m := 3) 2 (by decide)]
  refine congrArg nI ?_
  rw [Int32.toBitVec_add, BitVec.toNat_add]
  have e : (4 : Int32).toBitVec.toNat = 4 := by decide
  rw [e]
  omega
/-! ===== walks over the one block ===== -/
theorem dk_walkTo {post : St2 → Prop} {c fr ab ac pl op ch st ns ls : Int32} {a1 a2 a3 a4 a5 a6 a7 a8 a9 a10 a11 a12 a13 a14 a15 : Nat → Int32} (h4 : a4 0 = -1) (H : post (c, 0, fr, 0, 0, pl, op, ch, st, ns, ls, a1, a2, a3, a4, a5, a6, a7, a8, a9, a10, a11, a12, a13, a14, a15)) : wpX_walkTo post (c, 0, fr, ab, ac, pl, op, ch, st, ns, ls, a1, a2, a3, a4, a5, a6, a7, a8, a9, a10, a11, a12, a13, a14, a15) 1 := by
  have h : a4 0 < 0 := by rw [h4]; decide
  refine nm_r (e' := 0) (by decide) ⟨1, ?_⟩
  exact br_f (by decide) ⟨pk_in 0 32 (by omega), br_c (fun _ => H) (fun _ => ⟨pk_in 0 32 (by omega), br_t h H⟩)⟩
theorem dk_walkTo2 {post : St2 → Prop} {c fr ab ac pl op ch st ns ls : Int32} {a1 a2 a3 a4 a5 a6 a7 a8 a9 a10 a11 a12 a13 a14 a15 : Nat → Int32} (h4 : a4 0 = -1) (H : post (c, 0, fr, 0, 0, pl, op, ch, st, ns, ls, a1, a2, a3, a4, a5, a6, a7, a8, a9, a10, a11, a12, a13, a14, a15)) : wpX_walkTo_2 post (c, 0, fr, ab, ac, pl, op, ch, st, ns, ls, a1, a2, a3, a4, a5, a6, a7, a8, a9, a10, a11, a12, a13, a14, a15) 1 := by
  have h : a4 0 < 0 := by rw [h4]; decide
  refine nm_r (e' := 0) (by decide) ⟨1, ?_⟩
  exact br_f (by decide) ⟨pk_in 0 32 (by omega), br_c (fun _ => H) (fun _ => ⟨pk_in 0 32 (by omega), br_t h H⟩)⟩
theorem dk_joinSmall {post : St2 → Prop} {c fr ab ac pl op ch st ns ls : Int32} {a1 a2 a3 a4 a5 a6 a7 a8 a9 a10 a11 a12 a13 a14 a15 : Nat → Int32} (h4 : a4 0 = -1) (H : post (c, 0, fr, ab, ac, pl, op, ch, st, ns, ls, a1, a2, a3, a4, a5, a6, a7, a8, a9, a10, a11, a12, a13, a14, a15)) : wpX_joinSmall post (c, 0, fr, ab, ac, pl, op, ch, st, ns, ls, a1, a2, a3, a4, a5, a6, a7, a8, a9, a10, a11, a12, a13, a14, a15) := by
  have h : a4 0 < 0 := by rw [h4]; decide
  refine ⟨1, ?_⟩
  exact br_f (by decide) ⟨pk_in 0 32 (by omega), br_t h H⟩
theorem dk_note {post : St2 → Prop} {c fb fr ab ac pl op ch ns ls : Int32} {a1 a2 a3 a4 a5 a6 a7 a8 a9 a10 a11 a12 a13 a14 a15 : Nat → Int32} {p0 p1 p2 : Int32} (H : post (c, fb, fr, ab, ac, pl, op, ch, 1, ns, ls, a1, a2, a3, a4, a5, a6, a7, a8, upd a9 0 p0, upd a10 0 p1, upd a11 0 p2, a12, a13, a14, a15)) : wpX_note post (c, fb, fr, ab, ac, pl, op, ch, 0, ns, ls, a1, a2, a3, a4, a5, a6, a7, a8, a9, a10, a11, a12, a13, a14, a15) p0 p1 p2 := by
  refine ⟨pk_in 0 140 (by omega), nm_e ⟨pk_in 0 140 (by omega), nm_e ⟨pk_in 0 140 (by omega), nm_e (nm_r (e' := 1) (by decide) ?_)⟩⟩⟩
  exact H
theorem dk_lineAt {post : Int32 → St2 → Prop} {c fr ab ac pl op ch st ns ls : Int32} {a1 a2 a3 a4 a5 a6 a7 a8 a9 a10 a11 a12 a13 a14 a15 : Nat → Int32} (h4 : a4 0 = -1) (h6 : a6 0 = 0) (H : post 0 (c, 0, fr, 0, 0, pl, op, ch, st, ns, ls, a1, a2, a3, a4, a5, a6, a7, a8, a9, a10, a11, a12, a13, a14, a15)) : wpX_lineAt post (c, 0, fr, ab, ac, pl, op, ch, st, ns, ls, a1, a2, a3, a4, a5, a6, a7, a8, a9, a10, a11, a12, a13, a14, a15) 1 := by
  unfold wpX_lineAt
  refine dk_walkTo h4 ?_
  refine ⟨pk_in 0 192 (by omega), ?_⟩
  show post (a6 0) _
  rw [h6]
  exact H
theorem dk_lineAt2 {post : Int32 → St2 → Prop} {c fr ab ac pl op ch st ns ls : Int32} {a1 a2 a3 a4 a5 a6 a7 a8 a9 a10 a11 a12 a13 a14 a15 : Nat → Int32} (h4 : a4 0 = -1) (h6 : a6 0 = 0) (H : post 0 (c, 0, fr, 0, 0, pl, op, ch, st, ns, ls, a1, a2, a3, a4, a5, a6, a7, a8, a9, a10, a11, a12, a13, a14, a15)) : wpX_lineAt_2 post (c, 0, fr, ab, ac, pl, op, ch, st, ns, ls, a1, a2, a3, a4, a5, a6, a7, a8, a9, a10, a11, a12, a13, a14, a15) 1 := by
  unfold wpX_lineAt_2
  refine dk_walkTo2 h4 ?_
  refine ⟨pk_in 0 192 (by omega), ?_⟩
  show post (a6 0) _
  rw [h6]
  exact H
theorem dk_numberOf {post : Int32 → Prop} {c fr ab ac pl op ch st ns ls : Int32} {a1 a2 a3 a4 a5 a6 a7 a8 a9 a10 a11 a12 a13 a14 a15 : Nat → Int32} (h2 : a2 0 = 0) (h5 : a5 0 = 1) (h6 : a6 0 = 0) (H : post 1) : wpX_numberOf post (c, 0, fr, ab, ac, pl, op, ch, st, ns, ls, a1, a2, a3, a4, a5, a6, a7, a8, a9, a10, a11, a12, a13, a14, a15) 0 := by
  refine ⟨1, ?_⟩
  refine br_f (by decide) ⟨pk_in 0 128 (by omega), br_t h2.symm ⟨pk_in 0 128 (by omega), nm_r (e' := 0) h2 ⟨1, ?_⟩⟩⟩
  have h : ¬ a5 0 ≤ 0 := by rw [h5]; decide
  exact ⟨pk_in 0 32 (by omega), br_f h ⟨pk_in 0 192 (by omega), br_t h6 H⟩⟩
/-! ===== a line put in, a line taken out ===== -/
theorem dk_putIn {post : St2 → Prop} {c fr ab ac pl op ch ns ls : Int32} {a1 a2 a3 a4 a5 a6 a7 a8 a9 a10 a11 a12 a13 a14 a15 : Nat → Int32} (h4 : a4 0 = -1) (h5 : a5 0 = 0)
    (H : post (c + 1, 0, fr, 0, 0, pl, op, ch, 1, ns, ls, a1, upd a2 0 0, a3, a4, upd a5 0 (a5 0 + 1), upd a6 0 0, a7, a8, upd a9 0 0, upd a10 0 1, upd a11 0 0, a12, a13, a14, a15)) : wpX_putIn post (c, 0, fr, ab, ac, pl, op, ch, 0, ns, ls, a1, a2, a3, a4, a5, a6, a7, a8, a9, a10, a11, a12, a13, a14, a15) 1 0 := by
  unfold wpX_putIn
  refine dk_note ?_
  refine dk_walkTo h4 ?_
  have h : ¬ a5 0 = 6 := by rw [h5]; decide
  refine ⟨pk_in 0 32 (by omega), br_f h ?_⟩
  refine ⟨pk_in 0 32 (by omega), nm_r (e' := 0) h5 ⟨1, ?_⟩⟩
  refine br_t (by decide) ⟨pk_in 0 192 (by omega), nm_e ⟨pk_in 0 32 (by omega), pk_in 0 32 (by omega), nm_e ⟨pk_in 0 128 (by omega), nm_e (nm_e ?_)⟩⟩⟩
  exact dk_joinSmall h4 H
theorem dk_takeOut {post : Int32 → St2 → Prop} {c fr ab ac pl op ch ns ls : Int32} {a1 a2 a3 a4 a5 a6 a7 a8 a9 a10 a11 a12 a13 a14 a15 : Nat → Int32} (h4 : a4 0 = -1) (h5 : a5 0 = 1) (h6 : a6 0 = 0)
    (H : post 0 (c - 1, 0, fr, 0, 0, pl, op, ch, 1, ns, ls, a1, upd a2 0 (-1), upd a3 0 1, a4, upd a5 0 (a5 0 - 1), a6, a7, a8, upd a9 0 1, upd a10 0 1, upd a11 0 0, a12, a13, a14, a15)) : wpX_takeOut post (c, 0, fr, ab, ac, pl, op, ch, 0, ns, ls, a1, a2, a3, a4, a5, a6, a7, a8, a9, a10, a11, a12, a13, a14, a15) 1 := by
  unfold wpX_takeOut
  refine dk_walkTo h4 ?_
  refine ⟨pk_in 0 192 (by omega), nm_r (e' := 0) h6 ?_⟩
  refine dk_note ?_
  refine ⟨pk_in 0 128 (by omega), nm_e ⟨pk_in 0 32 (by omega), pk_in 0 32 (by omega), nm_e ⟨1, ?_⟩⟩⟩
  have h : upd a5 0 (a5 0 - 1) 0 ≤ 0 := by rw [pk_us, h5]; decide
  refine ⟨pk_in 0 32 (by omega), br_t h ⟨pk_in 0 128 (by omega), nm_e (nm_e ?_)⟩⟩
  exact dk_joinSmall h4 H
end
section
/-! ===== the loops that go over whole arrays ===== -/
theorem dk_bc34 {post : St2 → Prop} {c fb fr ab ac pl op ch st ns ls : Int32} {a1 a2 a3 a4 a5 a6 a7 a8 a9 a10 a11 a12 a13 a14 a15 : Nat → Int32} (H : ∀ b8, post (c, fb, fr, ab, ac, pl, pl, ch, st, ns, ls, a1, a2, a3, a4, a5, a6, a7, b8, a9, a10, a11, a12, a13, a14, a15)) : ∃ n, wX_beginChange_34 post c fb fr ab ac pl op ch st ns ls n 0 a1 a2 a3 a4 a5 a6 a7 a8 a9 a10 a11 a12 a13 a14 a15 :=
  pk_loop (fun n i s => wX_beginChange_34 post c fb fr ab ac pl op ch st ns ls n (nI i) a1 a2 a3 a4 a5 a6 a7 s a9 a10 a11 a12 a13 a14 a15) (fun _ _ => True) 4 0 a8 (by omega) trivial
    (fun n s _ => pk_le 4 4 (fun _ => H s) (fun z => absurd z (by omega)))
    (fun n i s hi _ hw => pk_le 4 i (fun z => absurd z (by omega)) (fun _ => ⟨pk_in i 4 hi, pk_in i 4 hi, nm_e (nm_r (nI_1 i) (hw _ trivial))⟩))
theorem dk_bc12 {post : St2 → Prop} {c fb fr ab ac pl op ch st ns ls : Int32} {a1 a2 a3 a4 a5 a6 a7 a8 a9 a10 a11 a12 a13 a14 a15 : Nat → Int32} (H : ∀ b3 b8, b3 0 = 0 → post (c, fb, fr, ab, ac, pl, pl, ch, st, ns, ls, a1, a2, b3, a4, a5, a6, a7, b8, a9, a10, a11, a12, a13, a14, a15)) : ∃ n, wX_beginChange_12 post c fb fr ab ac pl op ch st ns ls n 0 a1 a2 a3 a4 a5 a6 a7 a8 a9 a10 a11 a12 a13 a14 a15 :=
  pk_loop (fun n i s => wX_beginChange_12 post c fb fr ab ac pl op ch st ns ls n (nI i) a1 a2 s a4 a5 a6 a7 a8 a9 a10 a11 a12 a13 a14 a15) (fun i s => 0 < i → s 0 = 0) 128 0 a3 (by omega) (fun z => absurd z (by omega))
    (fun n s h => pk_le 128 128 (fun _ => dk_bc34 (fun b8 => H s b8 (h (by omega)))) (fun z => absurd z (by omega)))
    (fun n i s hi h hw => pk_le 128 i (fun z => absurd z (by omega)) (fun _ => ⟨pk_in i 128 hi, nm_e (nm_r (nI_1 i) (hw _ (dk_z (nI_clamp (by omega)) h)))⟩))
theorem dk_bc {post : St2 → Prop} {c fb fr ab ac pl op ch st ns ls : Int32} {a1 a2 a3 a4 a5 a6 a7 a8 a9 a10 a11 a12 a13 a14 a15 : Nat → Int32} (H : ∀ b3 b8, b3 0 = 0 → post (c, fb, fr, ab, ac, pl, pl, 1, 0, ns, ls, a1, a2, b3, a4, a5, a6, a7, b8, a9, a10, a11, a12, a13, a14, a15)) : wpX_beginChange post (c, fb, fr, ab, ac, pl, op, ch, st, ns, ls, a1, a2, a3, a4, a5, a6, a7, a8, a9, a10, a11, a12, a13, a14, a15) := dk_bc12 H
theorem dk_fl5 {post : Int32 → St2 → Prop} {v : Int32} {c fb fr ab ac pl op ch st ns ls : Int32} {a1 a2 a3 a4 a5 a6 a7 a8 a9 a10 a11 a12 a13 a14 a15 : Nat → Int32} (h2 : a2 0 = -1) (h3 : a3 0 = 0) (H : post 0 (c, fb, fr, ab, ac, pl, op, ch, st, ns, ls, upd a1 0 v, a2, a3, a4, a5, a6, a7, a8, a9, a10, a11, a12, a13, a14, a15)) :
    ∀ (k : Nat) (x2 : Int32), k < 128 → wX_freshLine_5 post v c fb fr ab ac pl op ch st ns ls a1 a2 a3 a4 a5 a6 a7 a8 a9 a10 a11 a12 a13 a14 a15 (k + 2) x2 (nI k) := by
  intro k
  induction k with
  | zero =>
    intro x2 _
    have h : ¬ 0 ≤ a2 0 := by rw [h2]; decide
    refine br_f (by decide) ⟨pk_in 0 128 (by omega), br_f h ⟨pk_in 0 128 (by omega), br_t h3 (nm_r (e' := -1) (by decide) ?_)⟩⟩
    exact br_t (by decide) ⟨pk_in 0 128 (by omega), nm_e H⟩
  | succ k ih =>
    intro x2 hk
    refine br_f (nI_pos (by omega)) ⟨pk_in (k + 1) 128 hk, br_c (fun _ => nm_r (pk_m1 k) (ih x2 (by omega))) (fun _ => ⟨pk_in (k + 1) 128 hk, br_c (fun _ => nm_r (pk_m1 k) (ih _ (by omega))) (fun _ => nm_r (pk_m1 k) (ih x2 (by omega)))⟩)⟩
theorem dk_fresh {post : Int32 → St2 → Prop} {v : Int32} {c fb fr ab ac pl op ch st ns ls : Int32} {a1 a2 a3 a4 a5 a6 a7 a8 a9 a10 a11 a12 a13 a14 a15 : Nat → Int32} (h2 : a2 0 = -1) (h3 : a3 0 = 0) (H : post 0 (c, fb, fr, ab, ac, pl, op, ch, st, ns, ls, upd a1 0 v, a2, a3, a4, a5, a6, a7, a8, a9, a10, a11, a12, a13, a14, a15)) : wpX_freshLine post (c, fb, fr, ab, ac, pl, op, ch, st, ns, ls, a1, a2, a3, a4, a5, a6, a7, a8, a9, a10, a11, a12, a13, a14, a15) v :=
  ⟨127 + 2, dk_fl5 h2 h3 H 127 0 (by omega)⟩
theorem dk_clear {post : St2 → Prop} {c fb fr ab ac pl op ch st ns ls : Int32} {a1 a2 a3 a4 a5 a6 a7 a8 a9 a10 a11 a12 a13 a14 a15 : Nat → Int32} (h7 : ∀ j, j < 4 → a7 j = -1 ∨ a7 j = 0) (H : ∀ b7, (∀ j, j < 4 → b7 j = -1) → post (c, fb, fr, ab, ac, pl, op, ch, st, ns, ls, a1, a2, a3, a4, a5, a6, b7, a8, a9, a10, a11, a12, a13, a14, a15)) : wpX_clearMarks post (c, fb, fr, ab, ac, pl, op, ch, st, ns, ls, a1, a2, a3, a4, a5, a6, a7, a8, a9, a10, a11, a12, a13, a14, a15) 0 :=
  pk_loop (fun n i s => wX_clearMarks_2 post 0 c fb fr ab ac pl op ch st ns ls n (nI i) a1 a2 a3 a4 a5 a6 s a8 a9 a10 a11 a12 a13 a14 a15) (fun i s => (∀ j, j < 4 → s j = -1 ∨ s j = 0) ∧ ∀ j, j < i → s j = -1) 4 0 a7 (by omega) ⟨h7, fun j z => absurd z (by omega)⟩
    (fun n s h => pk_le 4 4 (fun _ => H s h.2) (fun z => absurd z (by omega)))
    (fun n i s hi h hw => pk_le 4 i (fun z => absurd z (by omega)) (fun _ => by
      have ei : (nI i).toNatClampNeg = i := nI_clamp (by omega)
      refine ⟨pk_in i 4 hi, br_c (fun _ => ⟨pk_in i 4 hi, nm_e (nm_r (nI_1 i) (hw _ ?_))⟩) (fun g => ⟨pk_in i 4 hi, pk_in i 4 hi, nm_e (nm_r (nI_1 i) (hw _ ?_))⟩)⟩
      · refine ⟨fun j hj => ?_, dk_f ei h.2⟩
        by_cases e : j = (nI i).toNatClampNeg
        · rw [e, pk_us]
          exact Or.inl rfl
        · rw [pk_un e]
          exact h.1 j hj
      · rw [ei] at g ⊢
        have gi : s i = -1 := (h.1 i hi).resolve_right g
        refine ⟨fun j hj => ?_, fun j hj => ?_⟩
        · by_cases e : j = i
          · rw [e, pk_us]
            exact Or.inl gi
          · rw [pk_un e]
            exact h.1 j hj
        · by_cases e : j = i
          · rw [e, pk_us]
            exact gi
          · rw [pk_un e]
            exact h.2 j (by omega)))
theorem dk_exch {post : St2 → Prop} {c fb fr ab ac pl op ch st ns ls : Int32} {a1 a2 a3 a4 a5 a6 a7 a8 a9 a10 a11 a12 a13 a14 a15 : Nat → Int32} (H : ∀ b7 b8, post (c, fb, fr, ab, ac, op, pl, ch, st, ns, ls, a1, a2, a3, a4, a5, a6, b7, b8, a9, a10, a11, a12, a13, a14, a15)) : wpX_exchangeMarks post (c, fb, fr, ab, ac, pl, op, ch, st, ns, ls, a1, a2, a3, a4, a5, a6, a7, a8, a9, a10, a11, a12, a13, a14, a15) :=
  pk_loop (fun n i (s : (Nat → Int32) × (Nat → Int32)) => wX_exchangeMarks_20 post c fb fr ab ac op pl ch st ns ls n (nI i) a1 a2 a3 a4 a5 a6 s.1 s.2 a9 a10 a11 a12 a13 a14 a15) (fun _ _ => True) 4 0 (a7, a8) (by omega) trivial
    (fun n s _ => pk_le 4 4 (fun _ => H s.1 s.2) (fun z => absurd z (by omega)))
    (fun n i s hi _ hw => pk_le 4 i (fun z => absurd z (by omega)) (fun _ => ⟨pk_in i 4 hi, nm_e ⟨pk_in i 4 hi, pk_in i 4 hi, nm_e ⟨pk_in i 4 hi, nm_e (nm_r (nI_1 i) (hw (_, _) trivial))⟩⟩⟩))
/-! ===== the step back ===== -/
theorem dk_undo0 {post : Int32 → St2 → Prop} {c fb fr ab ac pl op st ns ls : Int32} {a1 a2 a3 a4 a5 a6 a7 a8 a9 a10 a11 a12 a13 a14 a15 : Nat → Int32} (H : post 0 (c, fb, fr, ab, ac, pl, op, 0, st, ns, ls, a1, a2, a3, a4, a5, a6, a7, a8, a9, a10, a11, a12, a13, a14, a15)) : wpX_undo post (c, fb, fr, ab, ac, pl, op, 0, st, ns, ls, a1, a2, a3, a4, a5, a6, a7, a8, a9, a10, a11, a12, a13, a14, a15) := br_t rfl H
theorem dk_undo76 {post : Int32 → St2 → Prop} {c fb fr ab ac pl op ch st ns ls : Int32} {a1 a2 a3 a4 a5 a6 a7 a8 a9 a10 a11 a12 a13 a14 a15 : Nat → Int32} (H : ∀ b3, ∃ n, wX_undo_103 post n (ns - 1) c fb fr ab ac pl op ch st ns ls a1 a2 b3 a4 a5 a6 a7 a8 a9 a10 a11 a12 a13 a14 a15) : ∃ n, wX_undo_76 post c fb fr ab ac pl op ch st ns ls n 0 a1 a2 a3 a4 a5 a6 a7 a8 a9 a10 a11 a12 a13 a14 a15 :=
  pk_loop (fun n i s => wX_undo_76 post c fb fr ab ac pl op ch st ns ls n (nI i) a1 a2 s a4 a5 a6 a7 a8 a9 a10 a11 a12 a13 a14 a15) (fun _ _ => True) 128 0 a3 (by omega) trivial
    (fun n s _ => pk_le 128 128 (fun _ => nm_e (H s)) (fun z => absurd z (by omega)))
    (fun n i s hi _ hw => pk_le 128 i (fun z => absurd z (by omega)) (fun _ => ⟨pk_in i 128 hi, nm_e (nm_r (nI_1 i) (hw _ trivial))⟩))
theorem dk_undo1 {post : Int32 → St2 → Prop} {c fb fr ab ac pl op ns ls : Int32} {a1 a2 a3 a4 a5 a6 a7 a8 a9 a10 a11 a12 a13 a14 a15 : Nat → Int32} (H : ∀ b3, ∃ n, wX_undo_103 post n 0 c fb fr ab ac pl op 1 0 1 ls a1 a2 b3 a4 a5 a6 a7 a8 a9 a10 a11 (upd a12 0 (a9 0)) (upd a13 0 (a10 0)) (upd a14 0 (a11 0)) a15) : wpX_undo post (c, fb, fr, ab, ac, pl, op, 1, 1, ns, ls, a1, a2, a3, a4, a5, a6, a7, a8, a9, a10, a11, a12, a13, a14, a15) := by
  refine br_f (by decide) ⟨2, ?_⟩
  refine br_f (by decide) ⟨pk_in 0 140 (by omega), pk_in 0 140 (by omega), nm_e ⟨pk_in 0 140 (by omega), pk_in 0 140 (by omega), nm_e ⟨pk_in 0 140 (by omega), pk_in 0 140 (by omega), nm_e (nm_r (e' := 1) (by decide) ?_)⟩⟩⟩
  exact br_t (by decide) (dk_undo76 H)
/-- the step was a line put in: it is taken out -/
theorem dk_undoP {post : Int32 → St2 → Prop} {c fr ab ac pl op ns ls : Int32} {a1 a2 a3 a4 a5 a6 a7 a8 a9 a10 a11 a12 a13 a14 a15 : Nat → Int32} (h4 : a4 0 = -1) (h5 : a5 0 = 1) (h6 : a6 0 = 0) (h9 : a9 0 = 0) (h10 : a10 0 = 1) (h11 : a11 0 = 0)
    (H : ∀ fb fr ab ac pl op ch st ns ls a1 a2 a3 a4 a5 a6 a7 a8 a9 a10 a11 a12 a13 a14 a15, post 1 (c - 1, fb, fr, ab, ac, pl, op, ch, st, ns, ls, a1, a2, a3, a4, a5, a6, a7, a8, a9, a10, a11, a12, a13, a14, a15)) : wpX_undo post (c, 0, fr, ab, ac, pl, op, 1, 1, ns, ls, a1, a2, a3, a4, a5, a6, a7, a8, a9, a10, a11, a12, a13, a14, a15) := by
  refine dk_undo1 (fun b3 => ⟨2, ?_⟩)
  refine br_f (by decide) ⟨pk_in 0 140 (by omega), pk_in 0 140 (by omega), pk_in 0 140 (by omega), ?_⟩
  rw [show upd a12 0 (a9 0) (0 : Int32).toNatClampNeg = 0 from h9, show upd a13 0 (a10 0) (0 : Int32).toNatClampNeg = 1 from h10, show upd a14 0 (a11 0) (0 : Int32).toNatClampNeg = 0 from h11]
  refine br_t rfl ?_
  refine dk_takeOut h4 h5 h6 ?_
  refine nm_r (e' := -1) (by decide) ?_
  refine br_t (by decide) ?_
  refine dk_exch (fun b7 b8 => ?_)
  exact H _ _ _ _ _ _ _ _ _ _ _ _ _ _ _ _ _ _ _ _ _ _ _ _ _
/-- the step was a line taken out: it is put in -/
theorem dk_undoT {post : Int32 → St2 → Prop} {c fr ab ac pl op ns ls : Int32} {a1 a2 a3 a4 a5 a6 a7 a8 a9 a10 a11 a12 a13 a14 a15 : Nat → Int32} (h4 : a4 0 = -1) (h5 : a5 0 = 0) (h9 : a9 0 = 1) (h10 : a10 0 = 1) (h11 : a11 0 = 0)
    (H : ∀ fb fr ab ac pl op ch st ns ls a1 a2 a3 a4 a5 a6 a7 a8 a9 a10 a11 a12 a13 a14 a15, post 1 (c + 1, fb, fr, ab, ac, pl, op, ch, st, ns, ls, a1, a2, a3, a4, a5, a6, a7, a8, a9, a10, a11, a12, a13, a14, a15)) : wpX_undo post (c, 0, fr, ab, ac, pl, op, 1, 1, ns, ls, a1, a2, a3, a4, a5, a6, a7, a8, a9, a10, a11, a12, a13, a14, a15) := by
  refine dk_undo1 (fun b3 => ⟨2, ?_⟩)
  refine br_f (by decide) ⟨pk_in 0 140 (by omega), pk_in 0 140 (by omega), pk_in 0 140 (by omega), ?_⟩
  rw [show upd a12 0 (a9 0) (0 : Int32).toNatClampNeg = 1 from h9, show upd a13 0 (a10 0) (0 : Int32).toNatClampNeg = 1 from h10, show upd a14 0 (a11 0) (0 : Int32).toNatClampNeg = 0 from h11]
  refine br_f (by decide) (br_t rfl ?_)
  refine dk_putIn h4 h5 ?_
  refine nm_r (e' := -1) (by decide) ?_
  refine br_t (by decide) ?_
  refine dk_exch (fun b7 b8 => ?_)
  exact H _ _ _ _ _ _ _ _ _ _ _ _ _ _ _ _ _ _ _ _ _ _ _ _ _
/-! ===== changes ===== -/
theorem dk_put0 {post : Int32 → St2 → Prop} {v : Int32} {fr ab ac pl op ch st ns ls : Int32} {a1 a2 a3 a4 a5 a6 a7 a8 a9 a10 a11 a12 a13 a14 a15 : Nat → Int32} (h2 : a2 0 = -1) (h4 : a4 0 = -1) (h5 : a5 0 = 0)
    (H : ∀ b3 b8, post 1 (1, 0, fr, 0, 0, 0, pl, 1, 1, ns, ls, upd a1 0 v, upd a2 0 0, b3, a4, upd a5 0 (a5 0 + 1), upd a6 0 0, a7, b8, upd a9 0 0, upd a10 0 1, upd a11 0 0, a12, a13, a14, a15)) : wpX_put post (0, 0, fr, ab, ac, pl, op, ch, st, ns, ls, a1, a2, a3, a4, a5, a6, a7, a8, a9, a10, a11, a12, a13, a14, a15) 0 v := by
  refine br_f (by decide) (br_f (by decide) (br_t (by decide) ?_))
  refine dk_bc (fun b3 b8 h3 => ?_)
  refine dk_fresh h2 h3 ?_
  refine dk_putIn h4 h5 ?_
  exact H b3 b8
theorem dk_putN {post : Int32 → St2 → Prop} {p v : Int32} {fb fr ab ac pl op ch st ns ls : Int32} {a1 a2 a3 a4 a5 a6 a7 a8 a9 a10 a11 a12 a13 a14 a15 : Nat → Int32} (hp : ¬ p = 0) (H : post (-1) (0, fb, fr, ab, ac, pl, op, ch, st, ns, ls, a1, a2, a3, a4, a5, a6, a7, a8, a9, a10, a11, a12, a13, a14, a15)) : wpX_put post (0, fb, fr, ab, ac, pl, op, ch, st, ns, ls, a1, a2, a3, a4, a5, a6, a7, a8, a9, a10, a11, a12, a13, a14, a15) p v :=
  br_c (fun _ => H) (fun h => br_t (dk_pos h hp) H)
theorem dk_removeN {post : Int32 → St2 → Prop} {n : Int32} {c fb fr ab ac pl op ch st ns ls : Int32} {a1 a2 a3 a4 a5 a6 a7 a8 a9 a10 a11 a12 a13 a14 a15 : Nat → Int32} (hn : ¬ n < 1 → ¬ n ≤ c) (H : post (-1) (c, fb, fr, ab, ac, pl, op, ch, st, ns, ls, a1, a2, a3, a4, a5, a6, a7, a8, a9, a10, a11, a12, a13, a14, a15)) : wpX_remove post (c, fb, fr, ab, ac, pl, op, ch, st, ns, ls, a1, a2, a3, a4, a5, a6, a7, a8, a9, a10, a11, a12, a13, a14, a15) n n := by
  unfold wpX_remove wpX_isRange
  exact br_c (fun _ => br_t rfl H) (fun h => br_f Int32.lt_irrefl (br_t (dk_gt (hn h)) (br_t rfl H)))
theorem dk_remove1 {post : Int32 → St2 → Prop} {fr ab ac pl op ch st ns ls : Int32} {a1 a2 a3 a4 a5 a6 a7 a8 a9 a10 a11 a12 a13 a14 a15 : Nat → Int32} (h4 : a4 0 = -1) (h5 : a5 0 = 1) (h6 : a6 0 = 0) (h7 : ∀ j, j < 4 → a7 j = -1 ∨ a7 j = 0)
    (H : ∀ b3 b7 b8, (∀ j, j < 4 → b7 j = -1) → post 1 (0, 0, fr, 0, 0, -1, pl, 1, 1, ns, ls, a1, upd a2 0 (-1), b3, a4, upd a5 0 (a5 0 - 1), a6, b7, b8, upd a9 0 1, upd a10 0 1, upd a11 0 0, a12, a13, a14, a15)) : wpX_remove post (1, 0, fr, ab, ac, pl, op, ch, st, ns, ls, a1, a2, a3, a4, a5, a6, a7, a8, a9, a10, a11, a12, a13, a14, a15) 1 1 := by
  unfold wpX_remove wpX_isRange
  refine br_f (by decide) (br_f (by decide) (br_f (by decide) (br_f (by decide) ?_)))
  refine dk_bc (fun b3 b8 h3 => ⟨2, ?_⟩)
  refine br_f (by decide) ?_
  refine dk_takeOut h4 h5 h6 ?_
  refine dk_clear h7 (fun b7 g7 => nm_r (e' := 2) (by decide) ?_)
  refine br_t (by decide) (br_t (by decide) (br_t (by decide) ?_))
  exact H _ b7 b8 g7
/-! ===== marks, the present line, finding ===== -/
theorem dk_lineN {post : Int32 → St2 → Prop} {n : Int32} {c fb fr ab ac pl op ch st ns ls : Int32} {a1 a2 a3 a4 a5 a6 a7 a8 a9 a10 a11 a12 a13 a14 a15 : Nat → Int32} (hn : ¬ n < 1 → ¬ n ≤ c) (H : post 0 (c, fb, fr, ab, ac, pl, op, ch, st, ns, ls, a1, a2, a3, a4, a5, a6, a7, a8, a9, a10, a11, a12, a13, a14, a15)) : wpX_line post (c, fb, fr, ab, ac, pl, op, ch, st, ns, ls, a1, a2, a3, a4, a5, a6, a7, a8, a9, a10, a11, a12, a13, a14, a15) n :=
  br_c (fun _ => H) (fun h => br_f (hn h) H)
theorem dk_line1 {post : Int32 → St2 → Prop} {fr ab ac pl op ch st ns ls : Int32} {a1 a2 a3 a4 a5 a6 a7 a8 a9 a10 a11 a12 a13 a14 a15 : Nat → Int32} (h4 : a4 0 = -1) (h6 : a6 0 = 0) (H : post (a1 0) (1, 0, fr, 0, 0, pl, op, ch, st, ns, ls, a1, a2, a3, a4, a5, a6, a7, a8, a9, a10, a11, a12, a13, a14, a15)) : wpX_line post (1, 0, fr, ab, ac, pl, op, ch, st, ns, ls, a1, a2, a3, a4, a5, a6, a7, a8, a9, a10, a11, a12, a13, a14, a15) 1 := by
  refine br_f (by decide) (br_t (by decide) ?_)
  refine dk_lineAt h4 h6 ?_
  exact ⟨pk_in 0 128 (by omega), H⟩
theorem dk_goN {post : Int32 → St2 → Prop} {n : Int32} {c fb fr ab ac pl op ch st ns ls : Int32} {a1 a2 a3 a4 a5 a6 a7 a8 a9 a10 a11 a12 a13 a14 a15 : Nat → Int32} (hn : ¬ n < 1 → ¬ n ≤ c) (H : post 0 (c, fb, fr, ab, ac, pl, op, ch, st, ns, ls, a1, a2, a3, a4, a5, a6, a7, a8, a9, a10, a11, a12, a13, a14, a15)) : wpX_go post (c, fb, fr, ab, ac, pl, op, ch, st, ns, ls, a1, a2, a3, a4, a5, a6, a7, a8, a9, a10, a11, a12, a13, a14, a15) n :=
  br_c (fun _ => H) (fun h => br_f (hn h) H)
theorem dk_go1 {post : Int32 → St2 → Prop} {fr ab ac pl op ch st ns ls : Int32} {a1 a2 a3 a4 a5 a6 a7 a8 a9 a10 a11 a12 a13 a14 a15 : Nat → Int32} (h4 : a4 0 = -1) (h6 : a6 0 = 0) (H : post (a1 0) (1, 0, fr, 0, 0, 0, op, ch, st, ns, ls, a1, a2, a3, a4, a5, a6, a7, a8, a9, a10, a11, a12, a13, a14, a15)) : wpX_go post (1, 0, fr, ab, ac, pl, op, ch, st, ns, ls, a1, a2, a3, a4, a5, a6, a7, a8, a9, a10, a11, a12, a13, a14, a15) 1 := by
  refine br_f (by decide) (br_t (by decide) ?_)
  refine dk_lineAt h4 h6 ?_
  exact ⟨pk_in 0 128 (by omega), H⟩
theorem dk_presentN {post : Int32 → Prop} {c fb fr ab ac op ch st ns ls : Int32} {a1 a2 a3 a4 a5 a6 a7 a8 a9 a10 a11 a12 a13 a14 a15 : Nat → Int32} (H : post 0) : wpX_present post (c, fb, fr, ab, ac, -1, op, ch, st, ns, ls, a1, a2, a3, a4, a5, a6, a7, a8, a9, a10, a11, a12, a13, a14, a15) := br_f (by decide) H
theorem dk_present1 {post : Int32 → Prop} {c fr ab ac op ch st ns ls : Int32} {a1 a2 a3 a4 a5 a6 a7 a8 a9 a10 a11 a12 a13 a14 a15 : Nat → Int32} (h2 : a2 0 = 0) (h5 : a5 0 = 1) (h6 : a6 0 = 0) (H : post 1) : wpX_present post (c, 0, fr, ab, ac, 0, op, ch, st, ns, ls, a1, a2, a3, a4, a5, a6, a7, a8, a9, a10, a11, a12, a13, a14, a15) :=
  br_t (by decide) (dk_numberOf h2 h5 h6 H)
theorem dk_markedN {post : Int32 → Prop} {p : Int32} {c fb fr ab ac pl op ch st ns ls : Int32} {a1 a2 a3 a4 a5 a6 a7 a8 a9 a10 a11 a12 a13 a14 a15 : Nat → Int32} (h7 : ∀ j, j < 4 → a7 j = -1) (H : post 0) : wpX_marked post (c, fb, fr, ab, ac, pl, op, ch, st, ns, ls, a1, a2, a3, a4, a5, a6, a7, a8, a9, a10, a11, a12, a13, a14, a15) p := by
  obtain ⟨j, hj, e⟩ := pk_andE p (m := 3) 2 (by decide)
  have h : a7 (p &&& 3).toNatClampNeg = -1 := by
    rw [e, nI_clamp (by omega)]
    exact h7 j hj
  exact ⟨pk_andIn p 2 (by decide) (by omega), nm_r (e' := -1) h (br_f (by decide) H)⟩
theorem dk_marked1 {post : Int32 → Prop} {p : Int32} {c fr ab ac pl op ch st ns ls : Int32} {a1 a2 a3 a4 a5 a6 a7 a8 a9 a10 a11 a12 a13 a14 a15 : Nat → Int32} (h2 : a2 0 = 0) (h5 : a5 0 = 1) (h6 : a6 0 = 0) (h7 : a7 (p &&& 3).toNatClampNeg = 0) (H : post 1) : wpX_marked post (c, 0, fr, ab, ac, pl, op, ch, st, ns, ls, a1, a2, a3, a4, a5, a6, a7, a8, a9, a10, a11, a12, a13, a14, a15) p :=
  ⟨pk_andIn p 2 (by decide) (by omega), nm_r (e' := 0) h7 (br_t (by decide) (dk_numberOf h2 h5 h6 H))⟩
theorem dk_mark0 {post : Int32 → St2 → Prop} {p : Int32} {c fb fr ab ac pl op ch st ns ls : Int32} {a1 a2 a3 a4 a5 a6 a7 a8 a9 a10 a11 a12 a13 a14 a15 : Nat → Int32} (hc : 0 ≤ c) (H : post 0 (c, fb, fr, ab, ac, pl, op, ch, st, ns, ls, a1, a2, a3, a4, a5, a6, upd a7 (p &&& 3).toNatClampNeg (-1), a8, a9, a10, a11, a12, a13, a14, a15)) : wpX_mark post (c, fb, fr, ab, ac, pl, op, ch, st, ns, ls, a1, a2, a3, a4, a5, a6, a7, a8, a9, a10, a11, a12, a13, a14, a15) p 0 :=
  br_f (by decide) (br_t hc (br_t rfl ⟨pk_andIn p 2 (by decide) (by omega), nm_e H⟩))
theorem dk_markN {post : Int32 → St2 → Prop} {p n : Int32} {c fb fr ab ac pl op ch st ns ls : Int32} {a1 a2 a3 a4 a5 a6 a7 a8 a9 a10 a11 a12 a13 a14 a15 : Nat → Int32} (hn : ¬ n < 0 → ¬ n ≤ c) (H : post (-1) (c, fb, fr, ab, ac, pl, op, ch, st, ns, ls, a1, a2, a3, a4, a5, a6, a7, a8, a9, a10, a11, a12, a13, a14, a15)) : wpX_mark post (c, fb, fr, ab, ac, pl, op, ch, st, ns, ls, a1, a2, a3, a4, a5, a6, a7, a8, a9, a10, a11, a12, a13, a14, a15) p n :=
  br_c (fun _ => H) (fun h => br_f (hn h) H)
theorem dk_mark1 {post : Int32 → St2 → Prop} {p : Int32} {fr ab ac pl op ch st ns ls : Int32} {a1 a2 a3 a4 a5 a6 a7 a8 a9 a10 a11 a12 a13 a14 a15 : Nat → Int32} (h4 : a4 0 = -1) (h6 : a6 0 = 0) (H : post 0 (1, 0, fr, 0, 0, pl, op, ch, st, ns, ls, a1, a2, a3, a4, a5, a6, upd a7 (p &&& 3).toNatClampNeg 0, a8, a9, a10, a11, a12, a13, a14, a15)) : wpX_mark post (1, 0, fr, ab, ac, pl, op, ch, st, ns, ls, a1, a2, a3, a4, a5, a6, a7, a8, a9, a10, a11, a12, a13, a14, a15) p 1 := by
  refine br_f (by decide) (br_t (by decide) (br_f (by decide) ?_))
  refine dk_lineAt2 h4 h6 ?_
  exact ⟨pk_andIn p 2 (by decide) (by omega), nm_e H⟩
theorem dk_findN {post : Int32 → St2 → Prop} {v : Int32} {fb fr ab ac pl op ch st ns ls : Int32} {a1 a2 a3 a4 a5 a6 a7 a8 a9 a10 a11 a12 a13 a14 a15 : Nat → Int32} (H : post 0 (0, fb, fr, ab, ac, pl, op, ch, st, ns, ls, a1, a2, a3, a4, a5, a6, a7, a8, a9, a10, a11, a12, a13, a14, a15)) : wpX_find post (0, fb, fr, ab, ac, pl, op, ch, st, ns, ls, a1, a2, a3, a4, a5, a6, a7, a8, a9, a10, a11, a12, a13, a14, a15) v := br_t rfl H
theorem dk_list1 {post : St2 → Prop} {c fr ab ac pl op ch st ns ls : Int32} {a1 a2 a3 a4 a5 a6 a7 a8 a9 a10 a11 a12 a13 a14 a15 : Nat → Int32} (h4 : a4 0 = -1) (h5 : a5 0 = 1) (h6 : a6 0 = 0) (H : post (c, 0, fr, ab, ac, pl, op, ch, st, ns, 1, a1, a2, a3, a4, a5, a6, a7, a8, a9, a10, a11, a12, a13, a14, upd a15 0 0)) : wpX_listRange post (c, 0, fr, ab, ac, pl, op, ch, st, ns, ls, a1, a2, a3, a4, a5, a6, a7, a8, a9, a10, a11, a12, a13, a14, a15) 1 1 := by
  have h : ¬ a5 0 ≤ 0 := by rw [h5]; decide
  have h' : a5 0 ≤ 1 := by rw [h5]; decide
  refine ⟨2, ?_⟩
  refine br_f (by decide) ⟨2, ?_⟩
  refine ⟨pk_in 0 32 (by omega), br_f h (nm_r (e' := 1) (by decide) (br_f (by decide) (br_f (by decide) ⟨pk_in 0 192 (by omega), pk_in 0 60 (by omega), nm_r (e' := upd a15 0 0) ?_ (nm_r (e' := 1) (by decide) (nm_r (e' := 1) (by decide) ?_))⟩)))⟩
  · show upd a15 0 (a6 0) = upd a15 0 0
    rw [h6]
  · refine ⟨pk_in 0 32 (by omega), br_t h' ⟨pk_in 0 32 (by omega), nm_r (e' := -1) h4 ?_⟩⟩
    exact br_t (by decide) H
theorem dk_find1 {post : Int32 → St2 → Prop} {v : Int32} {fr ab ac op ch st ns ls : Int32} {a1 a2 a3 a4 a5 a6 a7 a8 a9 a10 a11 a12 a13 a14 a15 : Nat → Int32} (h2 : a2 0 = 0) (h4 : a4 0 = -1) (h5 : a5 0 = 1) (h6 : a6 0 = 0)
    (H1 : a1 0 = v → post 1 (1, 0, fr, ab, ac, 0, op, ch, st, ns, 1, a1, a2, a3, a4, a5, a6, a7, a8, a9, a10, a11, a12, a13, a14, upd a15 0 0)) (H0 : ¬ a1 0 = v → post 0 (1, 0, fr, ab, ac, 0, op, ch, st, ns, 1, a1, a2, a3, a4, a5, a6, a7, a8, a9, a10, a11, a12, a13, a14, upd a15 0 0)) : wpX_find post (1, 0, fr, ab, ac, 0, op, ch, st, ns, ls, a1, a2, a3, a4, a5, a6, a7, a8, a9, a10, a11, a12, a13, a14, a15) v := by
  refine br_f (by decide) ?_
  refine dk_numberOf h2 h5 h6 ?_
  refine dk_list1 h4 h5 h6 ⟨2, ?_⟩
  refine br_f (by decide) (br_t (by decide) ?_)
  refine ⟨pk_in 0 60 (by omega), pk_in 0 128 (by omega), br_c (fun e => H1 e) (fun e => nm_r (e' := 1) (by decide) ?_)⟩
  exact br_t (by decide) (H0 e)
/-! ===== the constructor ===== -/
theorem dk_i201 {post : St2 → Prop} {mc ms kc ks : Nat} {c fb fr ab ac pl op ch st ns ls : Int32} {a1 a2 a3 a4 a5 a6 a7 a8 a9 a10 a11 a12 a13 a14 a15 : Nat → Int32} (H : ∀ b7, (∀ j, j < 4 → b7 j = -1) → post (c, fb, fr, ab, ac, -1, op, ch, st, ns, ls, a1, a2, a3, a4, a5, a6, b7, a8, a9, a10, a11, a12, a13, a14, a15)) : ∃ n, wX_init_201 post mc ms kc ks c fb fr ab ac pl op ch st ns ls n 0 a1 a2 a3 a4 a5 a6 a7 a8 a9 a10 a11 a12 a13 a14 a15 :=
  pk_loop (fun n i s => wX_init_201 post mc ms kc ks c fb fr ab ac pl op ch st ns ls n (nI i) a1 a2 a3 a4 a5 a6 s a8 a9 a10 a11 a12 a13 a14 a15) (fun i s => ∀ j, j < i → s j = -1) 4 0 a7 (by omega) (fun j z => absurd z (by omega))
    (fun n s h => pk_le 4 4 (fun _ => H s h) (fun z => absurd z (by omega)))
    (fun n i s hi h hw => pk_le 4 i (fun z => absurd z (by omega)) (fun _ => ⟨pk_in i 4 hi, nm_e (nm_r (nI_1 i) (hw _ (dk_f (nI_clamp (by omega)) h)))⟩))
theorem dk_i156 {post : St2 → Prop} {mc ms kc ks : Nat} {c fb fr ab ac pl op ch st ns ls : Int32} {a1 a2 a3 a4 a5 a6 a7 a8 a9 a10 a11 a12 a13 a14 a15 : Nat → Int32} (H : ∀ b4 b7, b4 0 = -1 → (∀ j, j < 4 → b7 j = -1) → post (c, fb, 1, ab, ac, -1, op, ch, st, ns, ls, a1, a2, a3, b4, a5, a6, b7, a8, a9, a10, a11, a12, a13, a14, a15)) : ∃ n, wX_init_156 post mc ms kc ks c fb fr ab ac pl op ch st ns ls n 1 a1 a2 a3 a4 a5 a6 a7 a8 a9 a10 a11 a12 a13 a14 a15 :=
  pk_loop (fun n i s => wX_init_156 post mc ms kc ks c fb fr ab ac pl op ch st ns ls n (nI i) a1 a2 a3 s a5 a6 a7 a8 a9 a10 a11 a12 a13 a14 a15) (fun _ _ => True) 32 1 a4 (by omega) trivial
    (fun n s _ => pk_le 32 32 (fun _ => nm_e (dk_i201 (fun b7 h7 => H (upd s 0 (-1)) b7 pk_us h7))) (fun z => absurd z (by omega)))
    (fun n i s hi _ hw => pk_le 32 i (fun z => absurd z (by omega)) (fun _ => br_c (fun _ => ⟨pk_in i 32 hi, nm_e (nm_r (nI_1 i) (hw _ trivial))⟩) (fun _ => ⟨pk_in i 32 hi, nm_e (nm_r (nI_1 i) (hw _ trivial))⟩)))
theorem dk_i134 {post : St2 → Prop} {mc ms kc ks : Nat} {c fb fr ab ac pl op ch st ns ls : Int32} {a1 a2 a3 a4 a5 a6 a7 a8 a9 a10 a11 a12 a13 a14 a15 : Nat → Int32} (H : ∀ b2 b4 b7, b2 0 = -1 → b4 0 = -1 → (∀ j, j < 4 → b7 j = -1) → post (c, fb, 1, ab, ac, -1, op, ch, st, ns, ls, a1, b2, a3, b4, a5, a6, b7, a8, a9, a10, a11, a12, a13, a14, a15)) : ∃ n, wX_init_134 post mc ms kc ks c fb fr ab ac pl op ch st ns ls n 0 a1 a2 a3 a4 a5 a6 a7 a8 a9 a10 a11 a12 a13 a14 a15 :=
  pk_loop (fun n i s => wX_init_134 post mc ms kc ks c fb fr ab ac pl op ch st ns ls n (nI i) a1 s a3 a4 a5 a6 a7 a8 a9 a10 a11 a12 a13 a14 a15) (fun i s => 0 < i → s 0 = -1) 128 0 a2 (by omega) (fun z => absurd z (by omega))
    (fun n s h => pk_le 128 128 (fun _ => dk_i156 (fun b4 b7 h4 h7 => H s b4 b7 (h (by omega)) h4 h7)) (fun z => absurd z (by omega)))
    (fun n i s hi h hw => pk_le 128 i (fun z => absurd z (by omega)) (fun _ => ⟨pk_in i 128 hi, nm_e (nm_r (nI_1 i) (hw _ (dk_z (nI_clamp (by omega)) h)))⟩))
theorem dk_init {post : St2 → Prop} {c fb fr ab ac pl op ch st ns ls : Int32} 
    (H : ∀ (b1 b2 b3 b4 b5 b6 b7 b8 b9 b10 b11 b12 b13 b14 b15 : Nat → Int32), b2 0 = -1 → b4 0 = -1 → b5 0 = 0 → (∀ j, j < 4 → b7 j = -1) → post (c, fb, 1, ab, ac, -1, op, ch, st, ns, ls, b1, b2, b3, b4, b5, b6, b7, b8, b9, b10, b11, b12, b13, b14, b15)) :
    wpX_init post 15 1548 (c, fb, fr, ab, ac, pl, op, ch, st, ns, ls) := by
  refine ⟨by decide, by decide, by decide, by decide, by decide, by decide, by decide, by decide, by decide, by decide, by decide, by decide, by decide, by decide, by decide, by decide, by decide, by decide, by decide, by decide, by decide, by decide, by decide, by decide, by decide, by decide, by decide, by decide, by decide, by decide, ?_⟩
  exact dk_i134 (fun b2 b4 b7 h2 h4 h7 => H _ b2 _ b4 _ _ b7 _ _ _ _ _ _ _ _ h2 h4 rfl h7)
end
section
/-! ===== the law, nothing put in: every answer is that of an empty text ===== -/
theorem dk_A145 {post : Int32 → St0 → Prop} {mc ms kc ks : Nat} {x1 x2 x3 z : Int32} {fb fr ab ac op st ns ls : Int32} {a1 a2 a3 a4 a5 a6 a7 a8 a9 a10 a11 a12 a13 a14 a15 : Nat → Int32} (h7 : ∀ j, j < 4 → a7 j = -1) (H : post 1 ()) :
    wL_lawOf_145 post mc ms x1 x2 x3 0 z z kc ks 0 fb fr ab ac (-1) op 0 st ns ls a1 a2 a3 a4 a5 a6 a7 a8 a9 a10 a11 a12 a13 a14 a15 := by
  refine br_t rfl ?_
  refine dk_markedN h7 ?_
  refine br_t rfl ?_
  refine br_t rfl ?_
  refine dk_goN dk_n0 ?_
  refine br_t rfl ?_
  refine br_t rfl ?_
  refine dk_removeN dk_n0 ?_
  refine br_t rfl ?_
  refine br_t rfl ?_
  refine dk_markedN h7 ?_
  refine br_t rfl ?_
  refine dk_undo0 ?_
  refine br_t rfl ?_
  refine br_t rfl ?_
  refine br_t rfl ?_
  exact br_t rfl H
theorem dk_A {post : Int32 → St0 → Prop} {mc ms kc ks : Nat} {x1 x2 x3 x4 : Int32} {fb fr ab ac op st ns ls : Int32} {a1 a2 a3 a4 a5 a6 a7 a8 a9 a10 a11 a12 a13 a14 a15 : Nat → Int32} (h7 : ∀ j, j < 4 → a7 j = -1) (H : post 1 ()) :
    wL_lawOf_47 post mc ms x1 x2 x3 x4 0 kc ks 0 fb fr ab ac (-1) op 0 st ns ls a1 a2 a3 a4 a5 a6 a7 a8 a9 a10 a11 a12 a13 a14 a15 := by
  unfold wL_lawOf_47
  refine dk_lineN dk_n0 ?_
  refine br_t rfl ?_
  refine br_t rfl ?_
  refine dk_presentN ?_
  refine br_t rfl ?_
  refine br_t rfl ?_
  refine dk_findN ?_
  refine br_t rfl ?_
  refine br_t rfl ?_
  by_cases e : x2 = 0
  · subst e
    refine dk_mark0 (by decide) ?_
    refine br_t rfl ?_
    exact dk_A145 (dk_u h7) H
  · refine dk_markN (fun h => dk_n0' h e) ?_
    refine br_f e (br_t rfl ?_)
    exact dk_A145 h7 H
/-! ===== one line put in, and n isn't 1 ===== -/
theorem dk_N145 {post : Int32 → St0 → Prop} {mc ms kc ks : Nat} {x1 x2 x3 z : Int32} {fr ab ac op ns ls : Int32} {a1 a2 a3 a4 a5 a6 a7 a8 a9 a10 a11 a12 a13 a14 a15 : Nat → Int32} (hn : ¬ x2 = 1) (h4 : a4 0 = -1) (h5 : a5 0 = 1) (h6 : a6 0 = 0) (h7 : ∀ j, j < 4 → a7 j = -1) (h9 : a9 0 = 0) (h10 : a10 0 = 1) (h11 : a11 0 = 0) (H : post 1 ()) :
    wL_lawOf_145 post mc ms x1 x2 x3 1 z z kc ks 1 0 fr ab ac 0 op 1 1 ns ls a1 a2 a3 a4 a5 a6 a7 a8 a9 a10 a11 a12 a13 a14 a15 := by
  refine br_t rfl ?_
  refine dk_markedN h7 ?_
  refine br_f (by decide) (br_f hn ?_)
  refine br_t rfl ?_
  refine dk_goN (fun h => dk_n1 h hn) ?_
  refine br_f (by decide) (br_f hn ?_)
  refine br_t rfl ?_
  refine dk_removeN (fun h => dk_n1 h hn) ?_
  refine br_f (by decide) (br_f hn ?_)
  refine br_t rfl ?_
  refine dk_markedN h7 ?_
  refine br_t rfl ?_
  refine dk_undoP h4 h5 h6 h9 h10 h11 (fun fb fr ab ac pl op ch st ns ls a1 a2 a3 a4 a5 a6 a7 a8 a9 a10 a11 a12 a13 a14 a15 => ?_)
  refine br_f (by decide) ?_
  refine br_t rfl ?_
  refine br_f (by decide) (br_f hn ?_)
  exact br_t (by decide) H
theorem dk_N114 {post : Int32 → St0 → Prop} {mc ms kc ks : Nat} {x1 x2 x3 z : Int32} {fr ab ac op ns ls : Int32} {a1 a2 a3 a4 a5 a6 a7 a8 a9 a10 a11 a12 a13 a14 a15 : Nat → Int32} (hn : ¬ x2 = 1) (h4 : a4 0 = -1) (h5 : a5 0 = 1) (h6 : a6 0 = 0) (h7 : ∀ j, j < 4 → a7 j = -1) (h9 : a9 0 = 0) (h10 : a10 0 = 1) (h11 : a11 0 = 0) (H : post 1 ()) :
    wL_lawOf_114 post mc ms x1 x2 x3 1 z z kc ks 1 0 fr ab ac 0 op 1 1 ns ls a1 a2 a3 a4 a5 a6 a7 a8 a9 a10 a11 a12 a13 a14 a15 := by
  refine br_t rfl ?_
  by_cases e : x2 = 0
  · subst e
    refine dk_mark0 (by decide) ?_
    refine br_t rfl ?_
    exact dk_N145 hn h4 h5 h6 (dk_u h7) h9 h10 h11 H
  · refine dk_markN (fun h => dk_n1' h e hn) ?_
    refine br_f e (br_f (by decide) (br_f hn ?_))
    exact dk_N145 hn h4 h5 h6 h7 h9 h10 h11 H
/-! ===== one line put in, and n is 1 ===== -/
theorem dk_O145 {post : Int32 → St0 → Prop} {mc ms kc ks : Nat} {x1 x3 z : Int32} {fr ab ac op ns ls : Int32} {a1 a2 a3 a4 a5 a6 a7 a8 a9 a10 a11 a12 a13 a14 a15 : Nat → Int32} (h1 : a1 0 = x1) (h2 : a2 0 = 0) (h4 : a4 0 = -1) (h5 : a5 0 = 1) (h6 : a6 0 = 0) (h7 : ∀ j, j < 4 → a7 j = -1 ∨ a7 j = 0) (hm : a7 ((x3 + 4) &&& 3).toNatClampNeg = 0) (H : post 1 ()) :
    wL_lawOf_145 post mc ms x1 1 x3 1 z z kc ks 1 0 fr ab ac 0 op 1 1 ns ls a1 a2 a3 a4 a5 a6 a7 a8 a9 a10 a11 a12 a13 a14 a15 := by
  refine br_t rfl ?_
  refine dk_marked1 h2 h5 h6 hm ?_
  refine br_f (by decide) (br_t rfl ?_)
  refine br_t rfl ?_
  refine dk_go1 h4 h6 ?_
  refine br_f (by decide) (br_t rfl ?_)
  refine br_t h1 ?_
  refine dk_remove1 h4 h5 h6 h7 (fun b3 b7 b8 g7 => ?_)
  refine br_f (by decide) (br_t rfl ?_)
  refine br_t rfl ?_
  refine dk_markedN g7 ?_
  refine br_t rfl ?_
  refine dk_undoT h4 (by rw [pk_us, h5]; decide) pk_us pk_us pk_us (fun fb fr ab ac pl op ch st ns ls a1 a2 a3 a4 a5 a6 a7 a8 a9 a10 a11 a12 a13 a14 a15 => ?_)
  refine br_f (by decide) ?_
  refine br_t rfl ?_
  refine br_f (by decide) (br_t rfl ?_)
  exact br_t (by decide) H
theorem dk_O114 {post : Int32 → St0 → Prop} {mc ms kc ks : Nat} {x1 x3 z : Int32} {fr ab ac op ns ls : Int32} {a1 a2 a3 a4 a5 a6 a7 a8 a9 a10 a11 a12 a13 a14 a15 : Nat → Int32} (h1 : a1 0 = x1) (h2 : a2 0 = 0) (h4 : a4 0 = -1) (h5 : a5 0 = 1) (h6 : a6 0 = 0) (h7 : ∀ j, j < 4 → a7 j = -1) (H : post 1 ()) :
    wL_lawOf_114 post mc ms x1 1 x3 1 z z kc ks 1 0 fr ab ac 0 op 1 1 ns ls a1 a2 a3 a4 a5 a6 a7 a8 a9 a10 a11 a12 a13 a14 a15 := by
  refine br_t rfl ?_
  refine dk_mark1 h4 h6 ?_
  refine br_f (by decide) (br_f (by decide) (br_t rfl ?_))
  refine dk_O145 h1 h2 h4 h5 h6 (fun j hj => ?_) ?_ H
  · by_cases e : j = (x3 &&& 3).toNatClampNeg
    · rw [e, pk_us]
      exact Or.inr rfl
    · rw [pk_un e]
      exact Or.inl (h7 j hj)
  · rw [dk_and4, pk_us]
theorem dk_B {post : Int32 → St0 → Prop} {mc ms kc ks : Nat} {x1 x2 x3 x4 : Int32} {fr ab ac op ns ls : Int32} {a1 a2 a3 a4 a5 a6 a7 a8 a9 a10 a11 a12 a13 a14 a15 : Nat → Int32} (h1 : a1 0 = x1) (h2 : a2 0 = 0) (h4 : a4 0 = -1) (h5 : a5 0 = 1) (h6 : a6 0 = 0) (h7 : ∀ j, j < 4 → a7 j = -1) (h9 : a9 0 = 0) (h10 : a10 0 = 1) (h11 : a11 0 = 0) (H : post 1 ()) :
    wL_lawOf_47 post mc ms x1 x2 x3 x4 1 kc ks 1 0 fr ab ac 0 op 1 1 ns ls a1 a2 a3 a4 a5 a6 a7 a8 a9 a10 a11 a12 a13 a14 a15 := by
  unfold wL_lawOf_47
  by_cases n : x2 = 1
  · subst n
    refine dk_line1 h4 h6 ?_
    refine br_f (by decide) (br_t rfl ?_)
    refine br_t h1 ?_
    refine dk_present1 h2 h5 h6 ?_
    refine br_f (by decide) ?_
    refine br_t rfl ?_
    refine dk_find1 h2 h4 h5 h6 (fun e => ?_) (fun e => ?_)
    · refine br_f (by decide) (br_t (e.symm.trans h1) ?_)
      exact dk_O114 h1 h2 h4 h5 h6 h7 H
    · refine br_f (by decide) (br_f (fun z => e (h1.trans z.symm)) ?_)
      exact dk_O114 h1 h2 h4 h5 h6 h7 H
  · refine dk_lineN (fun h => dk_n1 h n) ?_
    refine br_f (by decide) (br_f n ?_)
    refine br_t rfl ?_
    refine dk_present1 h2 h5 h6 ?_
    refine br_f (by decide) ?_
    refine br_t rfl ?_
    refine dk_find1 h2 h4 h5 h6 (fun e => ?_) (fun e => ?_)
    · refine br_f (by decide) (br_t (e.symm.trans h1) ?_)
      exact dk_N114 n h4 h5 h6 h7 h9 h10 h11 H
    · refine br_f (by decide) (br_f (fun z => e (h1.trans z.symm)) ?_)
      exact dk_N114 n h4 h5 h6 h7 h9 h10 h11 H
/-! ===== the whole law ===== -/
theorem dk_lawOf {post : Int32 → St0 → Prop} {p0 p1 p2 p3 p4 : Int32} (H : post 1 ()) : wpL_lawOf post 16 1574 () p0 p1 p2 p3 p4 := by
  refine ⟨by decide, by decide, 15, 1548, by decide, by decide, ?_⟩
  refine dk_init (fun b1 b2 b3 b4 b5 b6 b7 b8 b9 b10 b11 b12 b13 b14 b15 h2 h4 h5 h7 => ?_)
  refine dk_undo0 ?_
  refine br_t rfl ?_
  by_cases e : p0 = 0
  · subst e
    refine dk_put0 h2 h4 h5 (fun c3 c8 => ?_)
    refine br_t rfl ?_
    refine br_t rfl ?_
    refine br_t rfl ?_
    exact dk_B pk_us pk_us h4 (by rw [pk_us, h5]; decide) pk_us h7 pk_us pk_us pk_us H
  · refine dk_putN e ?_
    refine br_f e ?_
    refine br_t rfl (br_f e ?_)
    exact dk_A h7 H
theorem dk_cell {post : Int32 → Prop} {L : Nat} {xs : Nat → Int32} {u : St0} {p : Int32} (k : Nat) (hk : k < 5) (hL : L ≤ 5) (H : ∀ r, post r) (hp : p = nI k := by rfl) : wpL_cellAt post L xs u p :=
  pk_le L k (fun _ => H _) (fun z => ⟨pk_in k L z hp, H _⟩) (by rfl) hp
theorem i_vc (xs : Nat → Int32) (L : Nat) (hL : L ≤ 5) : wpL_law (fun r => r = 1) L xs := by
  unfold wpL_law
  refine dk_cell 0 (by omega) hL (fun r1 => ?_)
  refine dk_cell 1 (by omega) hL (fun r2 => ?_)
  refine dk_cell 2 (by omega) hL (fun r3 => ?_)
  refine dk_cell 3 (by omega) hL (fun r4 => ?_)
  refine dk_cell 4 (by omega) hL (fun r5 => ?_)
  exact ⟨16, 1574, by decide, by decide, dk_lawOf rfl⟩
end
