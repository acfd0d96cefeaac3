section
/-- the write of a boolean cell keeps 0 and 1 -/
theorem ds_nb0 : vp_nar .boolean 0 = 0 := by decide
theorem ds_nb1 : vp_nar .boolean 1 = 1 := by decide
theorem ds_in0 {N : Nat} (h : 0 < N) (hN : N < 2 ^ 31) : vp_in 0 N := vp_in_nI (n := 0) h hN
theorem ds_cl0 : (0 : Int32).toNatClampNeg = 0 := by decide

section
variable {o b e n t tc v vc g ov gc fo pa : Int32} {a1 a2 a3 a4 a5 a6 a7 a8 : Nat → Int32}

/-- begin on the new store: the record is open, its note stands at place 0 if there is one -/
theorem ds_begin {post : Int32 → St2 → Prop} {z x : Int32} (hz : z = 0 ∨ z = 1)
    (H : ∀ (n' : Int32) (b1 b2 : Nat → Int32), b1 0 = z → (¬ z = 0 → b2 0 = x) → post 0 (1, 1, e, n', t, tc, v, vc, 0, ov, gc, fo, pa, b1, b2, a3, a4, a5, a6, a7, a8)) :
    wpX_begin post (0, 0, e, 0, t, tc, v, vc, g, ov, gc, fo, pa, a1, a2, a3, a4, a5, a6, a7, a8) z x := by
  unfold wpX_begin
  refine br_t rfl (br_t (by decide) ⟨ds_in0 (by decide) (by decide), nm_e ?_⟩)
  rw [ds_cl0]
  rcases hz with hz | hz
  · subst hz
    refine br_t rfl (nm_r (e' := 1) (by decide) ?_)
    exact H 0 _ _ (by rw [pk_us, ds_nb0]) (fun h => absurd rfl h)
  · subst hz
    refine br_f (by decide) ⟨ds_in0 (by decide) (by decide), nm_e (nm_r (e' := 1) (by decide) (nm_r (e' := 1) (by decide) ?_))⟩
    exact H 1 _ _ (by rw [pk_us, ds_nb1]) (fun _ => pk_us)

/-- the first group of the open record -/
theorem ds_group {post : Int32 → St2 → Prop} {z x : Int32} (hz : z = 0 ∨ z = 1)
    (H : ∀ (c' : Int32) (b3 b4 b5 : Nat → Int32), b3 0 = 0 → (z = 0 → b4 0 = 1) → (¬ z = 0 → b4 0 = 2 ∧ b5 0 = x) → post 1 (1, b, e, n, 1, c', v, vc, 1, 0, 1, fo, pa, a1, a2, b3, b4, b5, a6, a7, a8)) :
    wpX_group post (1, b, e, n, 0, 0, v, vc, 0, ov, 0, fo, pa, a1, a2, a3, a4, a5, a6, a7, a8) z x := by
  unfold wpX_group
  refine br_f (by decide) (br_f (by decide) (br_t (by decide) ?_))
  unfold wpX_closeGroup
  refine br_t (by decide) (br_t rfl ?_)
  unfold wX_group_43
  rcases hz with hz | hz
  · subst hz
    refine br_t rfl ?_
    unfold wX_group_52 wpX_addTagEntry
    refine ⟨ds_in0 (by decide) (by decide), nm_e ⟨ds_in0 (by decide) (by decide), nm_e (nm_r (e' := 1) (by decide) (br_t rfl ?_))⟩⟩
    unfold wX_group_79
    refine nm_r (e' := 1) (by decide) (nm_r (e' := 1) (by decide) ?_)
    rw [ds_cl0]
    exact H 0 _ _ _ pk_us (fun _ => pk_us) (fun h => absurd rfl h)
  · subst hz
    refine br_f (by decide) ?_
    unfold wX_group_52 wpX_addTagEntry
    refine ⟨ds_in0 (by decide) (by decide), nm_e ⟨ds_in0 (by decide) (by decide), nm_e (nm_r (e' := 1) (by decide) (br_f (by decide) ⟨ds_in0 (by decide) (by decide), nm_e (nm_r (e' := 1) (by decide) ?_)⟩))⟩⟩
    unfold wX_group_79
    refine nm_r (e' := 1) (by decide) (nm_r (e' := 1) (by decide) ?_)
    rw [ds_cl0]
    exact H 1 _ _ _ pk_us (fun h => absurd h (by decide)) (fun _ => ⟨pk_us, pk_us⟩)

/-- the first value of the first group -/
theorem ds_value {post : Int32 → St2 → Prop} {x : Int32}
    (H : ∀ b6 b7 b8 : Nat → Int32, b6 0 = 0 → b7 0 = 2 → b8 0 = x → post 1 (1, b, e, n, t, tc, 1, 1, 1, 1, gc, fo, pa, a1, a2, a3, a4, a5, b6, b7, b8)) :
    wpX_value post (1, b, e, n, t, tc, 0, 0, 1, 0, gc, fo, pa, a1, a2, a3, a4, a5, a6, a7, a8) x := by
  unfold wpX_value
  refine br_f (by decide) (br_f (by decide) (br_f (by decide) (br_t (by decide) (br_t (by decide) (br_t (by decide) ?_)))))
  unfold wX_value_58 wpX_addValueEntry
  refine ⟨ds_in0 (by decide) (by decide), nm_e ⟨ds_in0 (by decide) (by decide), nm_e (nm_r (e' := 1) (by decide) ⟨ds_in0 (by decide) (by decide), nm_e (nm_r (e' := 1) (by decide) (nm_r (e' := 1) (by decide) ?_))⟩)⟩⟩
  rw [ds_cl0]
  exact H _ _ _ pk_us pk_us pk_us

/-- a store with one ended record: the place 0 is ended, no other -/
theorem ds_ended0 {post : Int32 → Prop} (H : post 1) : wpX_isEnded post (o, b, 1, n, t, tc, v, vc, g, ov, gc, fo, pa, a1, a2, a3, a4, a5, a6, a7, a8) 0 := by
  unfold wpX_isEnded
  exact br_f (by decide) (br_f (by decide) H)
theorem ds_one {p : Int32} (hp : ¬ p = 0) (h : ¬ p < 0) : (1 : Int32) ≤ p := by
  obtain ⟨j, hj, rfl⟩ := nI_of h
  have h0 : ¬ j = 0 := fun z => hp (by rw [z, nI_0])
  exact nI_le (a := 1) (by omega) hj
theorem ds_endedN {post : Int32 → Prop} {p : Int32} (hp : ¬ p = 0) (H : post 0) : wpX_isEnded post (o, b, 1, n, t, tc, v, vc, g, ov, gc, fo, pa, a1, a2, a3, a4, a5, a6, a7, a8) p := by
  unfold wpX_isEnded
  exact br_c (fun _ => H) (fun h => br_t (ds_one hp h) H)

/-- groups of a record that isn't ended -/
theorem ds_groupsN {post : Int32 → St2 → Prop} (H : post (-1) (o, b, 0, n, t, tc, v, vc, g, ov, gc, fo, pa, a1, a2, a3, a4, a5, a6, a7, a8)) :
    wpX_groups post (o, b, 0, n, t, tc, v, vc, g, ov, gc, fo, pa, a1, a2, a3, a4, a5, a6, a7, a8) 0 := by
  unfold wpX_groups wpX_isEnded
  exact br_f (by decide) (br_t (by decide) (br_t rfl H))

/-- the end of a record whose one group has a value -/
theorem ds_end {post : Int32 → St2 → Prop} (H : post 1 (0, b, 1, n, t, tc, v, vc, 1, 1, gc, fo, pa, a1, a2, a3, a4, a5, a6, a7, a8)) :
    wpX_end post (1, b, 0, n, t, tc, v, vc, 1, 1, gc, fo, pa, a1, a2, a3, a4, a5, a6, a7, a8) := by
  unfold wpX_end
  refine br_f (by decide) ?_
  unfold wpX_closeGroup
  refine br_f (by decide) (br_f (by decide) (br_f (by decide) ?_))
  unfold wX_end_32
  exact nm_r (e' := 1) (by decide) H

theorem ds_hasNote0 {post : Int32 → Prop} (H0 : a1 0 = 0 → post 0) (H1 : ¬ a1 0 = 0 → post 1) : wpX_hasNote post (o, b, 1, n, t, tc, v, vc, g, ov, gc, fo, pa, a1, a2, a3, a4, a5, a6, a7, a8) 0 := by
  unfold wpX_hasNote
  refine ds_ended0 (br_f (by decide) ⟨ds_in0 (by decide) (by decide), ?_⟩)
  rw [ds_cl0]
  exact br_c H0 H1
theorem ds_hasNoteN {post : Int32 → Prop} {p : Int32} (hp : ¬ p = 0) (H : post (-1)) : wpX_hasNote post (o, b, 1, n, t, tc, v, vc, g, ov, gc, fo, pa, a1, a2, a3, a4, a5, a6, a7, a8) p := by
  unfold wpX_hasNote
  exact ds_endedN hp (br_t rfl H)

/-- a walk over the column of tags to the first group of record 0 -/
theorem ds_findTag {post : St2 → Prop} (h3 : a3 0 = 0) (H : post (o, b, e, n, 1, tc, v, vc, g, ov, gc, 0, 0, a1, a2, a3, a4, a5, a6, a7, a8)) :
    wpX_findTag post (o, b, e, n, 1, tc, v, vc, g, ov, gc, fo, pa, a1, a2, a3, a4, a5, a6, a7, a8) 0 0 := by
  unfold wpX_findTag
  refine ⟨0 + 1, ?_⟩
  unfold wX_findTag_18
  refine br_f (by decide) ⟨ds_in0 (by decide) (by decide), br_t (by rw [ds_cl0]; exact h3) ?_⟩
  unfold wX_findTag_43
  refine nm_r (e' := 0) (by decide) ⟨ds_in0 (by decide) (by decide), br_t (by rw [ds_cl0]; exact h3) ?_⟩
  unfold wX_findTag_63
  exact br_t rfl (br_t rfl H)

theorem ds_findValue {post : St2 → Prop} (h6 : a6 0 = 0) (H : post (o, b, e, n, t, tc, 1, vc, g, ov, gc, 0, 0, a1, a2, a3, a4, a5, a6, a7, a8)) :
    wpX_findValue post (o, b, e, n, t, tc, 1, vc, g, ov, gc, fo, pa, a1, a2, a3, a4, a5, a6, a7, a8) 0 0 := by
  unfold wpX_findValue
  refine ⟨0 + 1, ?_⟩
  unfold wX_findValue_18
  refine br_f (by decide) ⟨ds_in0 (by decide) (by decide), br_t (by rw [ds_cl0]; exact h6) ?_⟩
  unfold wX_findValue_43
  refine nm_r (e' := 0) (by decide) ⟨ds_in0 (by decide) (by decide), br_t (by rw [ds_cl0]; exact h6) ?_⟩
  unfold wX_findValue_79
  exact br_t rfl (br_t rfl H)

/-- record 0 has one group -/
theorem ds_groups0 {post : Int32 → St2 → Prop} (h3 : a3 0 = 0) (h4 : ¬ a4 0 = 0) (H : post 1 (o, b, 1, n, 1, tc, v, vc, g, ov, gc, 0, 0, a1, a2, a3, a4, a5, a6, a7, a8)) :
    wpX_groups post (o, b, 1, n, 1, tc, v, vc, g, ov, gc, fo, pa, a1, a2, a3, a4, a5, a6, a7, a8) 0 := by
  unfold wpX_groups
  refine ds_ended0 (br_f (by decide) (ds_findTag h3 ⟨ds_in0 (by decide) (by decide), br_f (by rw [ds_cl0]; exact h4) (nm_r (e' := 1) (by decide) ⟨0 + 1, ?_⟩)⟩))
  unfold wX_groups_39
  exact br_t (by decide) H

theorem ds_isGroup0 {post : Int32 → St2 → Prop} (h3 : a3 0 = 0) (h4 : ¬ a4 0 = 0) (H : post 1 (o, b, 1, n, 1, tc, v, vc, g, ov, gc, 0, 0, a1, a2, a3, a4, a5, a6, a7, a8)) :
    wpX_isGroup post (o, b, 1, n, 1, tc, v, vc, g, ov, gc, fo, pa, a1, a2, a3, a4, a5, a6, a7, a8) 0 0 := by
  unfold wpX_isGroup
  exact ds_ended0 (br_f (by decide) (br_f (by decide) (ds_groups0 h3 h4 (br_f (by decide) H))))
theorem ds_isGroupN {post : Int32 → St2 → Prop} {p q : Int32} (hp : ¬ p = 0) (H : post 0 (o, b, 1, n, t, tc, v, vc, g, ov, gc, fo, pa, a1, a2, a3, a4, a5, a6, a7, a8)) :
    wpX_isGroup post (o, b, 1, n, t, tc, v, vc, g, ov, gc, fo, pa, a1, a2, a3, a4, a5, a6, a7, a8) p q := by
  unfold wpX_isGroup
  exact ds_endedN hp (br_t rfl H)

/-- the note of record 0 -/
theorem ds_note0 {post : Int32 → St2 → Prop} (H0 : a1 0 = 0 → post 0 (o, b, 1, n, t, tc, v, vc, g, ov, gc, fo, pa, a1, a2, a3, a4, a5, a6, a7, a8))
    (H1 : ¬ a1 0 = 0 → post (a2 0) (o, b, 1, n, t, tc, v, vc, g, ov, gc, fo, pa, a1, a2, a3, a4, a5, a6, a7, a8)) :
    wpX_label post (o, b, 1, n, t, tc, v, vc, g, ov, gc, fo, pa, a1, a2, a3, a4, a5, a6, a7, a8) 0 (-1) := by
  unfold wpX_label
  refine ds_ended0 (br_f (by decide) (br_t rfl ⟨ds_in0 (by decide) (by decide), ?_⟩))
  rw [ds_cl0]
  refine br_c H0 (fun h => ?_)
  unfold wpX_notesBefore
  refine ⟨0 + 1, ?_⟩
  unfold wX_notesBefore_4
  exact br_t (by decide) ⟨ds_in0 (by decide) (by decide), H1 h⟩
theorem ds_labelN {post : Int32 → St2 → Prop} {p q : Int32} (hp : ¬ p = 0) (H : post 0 (o, b, 1, n, t, tc, v, vc, g, ov, gc, fo, pa, a1, a2, a3, a4, a5, a6, a7, a8)) :
    wpX_label post (o, b, 1, n, t, tc, v, vc, g, ov, gc, fo, pa, a1, a2, a3, a4, a5, a6, a7, a8) p q := by
  unfold wpX_label
  exact ds_endedN hp (br_t rfl H)
/-- the tag of its first group -/
theorem ds_tag0 {post : Int32 → St2 → Prop} (h3 : a3 0 = 0) (h4 : ¬ a4 0 = 0)
    (H2 : a4 0 = 2 → post (a5 0) (o, b, 1, n, 1, tc, v, vc, g, ov, gc, 0, 0, a1, a2, a3, a4, a5, a6, a7, a8))
    (H1 : ¬ a4 0 = 2 → post 0 (o, b, 1, n, 1, tc, v, vc, g, ov, gc, 0, 0, a1, a2, a3, a4, a5, a6, a7, a8)) :
    wpX_label post (o, b, 1, n, 1, tc, v, vc, g, ov, gc, fo, pa, a1, a2, a3, a4, a5, a6, a7, a8) 0 0 := by
  unfold wpX_label
  refine ds_ended0 (br_f (by decide) (br_f (by decide) (ds_isGroup0 h3 h4 (br_f (by decide) (ds_findTag h3 ⟨ds_in0 (by decide) (by decide), ?_⟩)))))
  rw [ds_cl0]
  exact br_c (fun h => ⟨ds_in0 (by decide) (by decide), H2 h⟩) H1

theorem ds_values0 {post : Int32 → St2 → Prop} (h3 : a3 0 = 0) (h4 : ¬ a4 0 = 0) (h6 : a6 0 = 0) (h7 : a7 0 = 2) (H : post 1 (o, b, 1, n, 1, tc, 1, vc, g, ov, gc, 0, 0, a1, a2, a3, a4, a5, a6, a7, a8)) :
    wpX_values post (o, b, 1, n, 1, tc, 1, vc, g, ov, gc, fo, pa, a1, a2, a3, a4, a5, a6, a7, a8) 0 0 := by
  unfold wpX_values
  refine ds_isGroup0 h3 h4 (br_f (by decide) (ds_findValue h6 ⟨ds_in0 (by decide) (by decide), br_t (by rw [ds_cl0, h7]; decide) (nm_r (e' := 1) (by decide) ⟨0 + 1, ?_⟩)⟩))
  unfold wX_values_42
  exact br_t (by decide) H

theorem ds_valueAt0 {post : Int32 → St2 → Prop} (h3 : a3 0 = 0) (h4 : ¬ a4 0 = 0) (h6 : a6 0 = 0) (h7 : a7 0 = 2) (H : post (a8 0) (o, b, 1, n, 1, tc, 1, vc, g, ov, gc, 0, 0, a1, a2, a3, a4, a5, a6, a7, a8)) :
    wpX_valueAt post (o, b, 1, n, 1, tc, 1, vc, g, ov, gc, fo, pa, a1, a2, a3, a4, a5, a6, a7, a8) 0 0 0 := by
  unfold wpX_valueAt
  exact ds_isGroup0 h3 h4 (br_f (by decide) (br_f (by decide) (ds_values0 h3 h4 h6 h7 (br_t (by decide) (ds_findValue h6 ⟨ds_in0 (by decide) (by decide), H⟩)))))
theorem ds_valueAtN {post : Int32 → St2 → Prop} {p q k : Int32} (hp : ¬ p = 0) (H : post 0 (o, b, 1, n, t, tc, v, vc, g, ov, gc, fo, pa, a1, a2, a3, a4, a5, a6, a7, a8)) :
    wpX_valueAt post (o, b, 1, n, t, tc, v, vc, g, ov, gc, fo, pa, a1, a2, a3, a4, a5, a6, a7, a8) p q k := by
  unfold wpX_valueAt
  exact ds_isGroupN hp (br_t rfl H)
end
end
section
section
variable {o b n tc vc g ov gc fo pa : Int32} {a1 a2 a3 a4 a5 a6 a7 a8 : Nat → Int32} {post : Int32 → St0 → Prop} {mc ms kc ks : Nat}

theorem ds_n4 {x0 x2 : Int32} (w0 : x0 &&& 2 = 0 → a4 0 = 1) (w1 : ¬ x0 &&& 2 = 0 → a4 0 = 2 ∧ a5 0 = x2) : ¬ a4 0 = 0 := by
  by_cases h : x0 &&& 2 = 0
  · rw [w0 h]; decide
  · rw [(w1 h).1]; decide

/-- the last check: the value -/
theorem ds_162 {x3 x4 z0 z1 : Int32} (hz : z1 = z0) (h3 : a3 0 = 0) (h4 : ¬ a4 0 = 0) (h6 : a6 0 = 0) (h7 : a7 0 = 2) (h8 : a8 0 = x3) (hp : post 1 ()) :
    wL_lawOf_162 post mc ms x3 x4 z0 z1 kc ks o b 1 n 1 tc 1 vc g ov gc fo pa a1 a2 a3 a4 a5 a6 a7 a8 := by
  unfold wL_lawOf_162
  refine br_t hz ?_
  by_cases h : x4 = 0
  · subst h
    refine ds_valueAt0 h3 h4 h6 h7 (br_t rfl ?_)
    unfold wL_lawOf_186
    exact br_t h8 hp
  · refine ds_valueAtN h (br_f h ?_)
    unfold wL_lawOf_186
    exact br_t rfl hp

/-- the tag, then the value -/
theorem ds_139 {x0 x2 x3 x4 z0 z1 : Int32} (hz : z1 = z0) (h3 : a3 0 = 0) (w0 : x0 &&& 2 = 0 → a4 0 = 1) (w1 : ¬ x0 &&& 2 = 0 → a4 0 = 2 ∧ a5 0 = x2) (h6 : a6 0 = 0) (h7 : a7 0 = 2) (h8 : a8 0 = x3) (hp : post 1 ()) :
    wL_lawOf_139 post mc ms x0 x2 x3 x4 z0 z1 kc ks o b 1 n 1 tc 1 vc g ov gc fo pa a1 a2 a3 a4 a5 a6 a7 a8 := by
  have h4 := ds_n4 w0 w1
  unfold wL_lawOf_139
  refine br_t hz (ds_tag0 h3 h4 (fun h => ?_) (fun h => ?_))
  · have hw : ¬ x0 &&& 2 = 0 := fun q => absurd ((w0 q).symm.trans h) (by decide)
    exact br_f hw (ds_162 (w1 hw).2 h3 h4 h6 h7 h8 hp)
  · have hw : x0 &&& 2 = 0 := Decidable.byContradiction (fun q => h (w1 q).1)
    exact br_t hw (ds_162 rfl h3 h4 h6 h7 h8 hp)

/-- the note, then the tag and the value -/
theorem ds_113 {x0 x1 x2 x3 x4 x6 z0 z1 : Int32} (hz : z1 = z0) (h1 : a1 0 = x6) (h2 : ¬ x6 = 0 → a2 0 = x1) (h3 : a3 0 = 0) (w0 : x0 &&& 2 = 0 → a4 0 = 1) (w1 : ¬ x0 &&& 2 = 0 → a4 0 = 2 ∧ a5 0 = x2) (h6 : a6 0 = 0) (h7 : a7 0 = 2) (h8 : a8 0 = x3) (hp : post 1 ()) :
    wL_lawOf_113 post mc ms x0 x1 x2 x3 x4 x6 z0 z1 kc ks o b 1 n 1 tc 1 vc g ov gc fo pa a1 a2 a3 a4 a5 a6 a7 a8 := by
  unfold wL_lawOf_113
  refine br_t hz ?_
  by_cases h : x4 = 0
  · subst h
    refine ds_note0 (fun q => br_t rfl (br_t (h1.symm.trans q) ?_)) (fun q => br_t rfl (br_f (fun r => q (h1.trans r)) ?_))
    · unfold wL_lawOf_138
      exact ds_139 rfl h3 w0 w1 h6 h7 h8 hp
    · exact ds_139 (h2 (fun r => q (h1.trans r))) h3 w0 w1 h6 h7 h8 hp
  · refine ds_labelN h (br_f h ?_)
    unfold wL_lawOf_138
    exact ds_139 rfl h3 w0 w1 h6 h7 h8 hp

/-- group, value, groups, end and hasNote, then the rest -/
theorem ds_46 {x0 x1 x2 x3 x4 x6 z0 : Int32} (hz : z0 = 0 ∨ z0 = 1) (w0 : x0 &&& 2 = 0 → z0 = 0) (w1 : ¬ x0 &&& 2 = 0 → ¬ z0 = 0) (h1 : a1 0 = x6) (h2 : ¬ x6 = 0 → a2 0 = x1) (hp : post 1 ()) :
    wL_lawOf_46 post mc ms x0 x1 x2 x3 x4 x6 z0 kc ks 1 b 0 n 0 0 0 0 0 ov 0 fo pa a1 a2 a3 a4 a5 a6 a7 a8 := by
  unfold wL_lawOf_46
  refine ds_group hz (fun c' b3 b4 b5 k3 k4 k5 => br_t rfl (ds_value (fun b6 b7 b8 k6 k7 k8 => br_t rfl (ds_groupsN (br_t rfl (ds_end (br_t rfl ?_)))))))
  by_cases h : x4 = 0
  · subst h
    refine ds_hasNote0 (fun q => br_t rfl (br_t (h1.symm.trans q) ?_)) (fun q => br_t rfl (br_f (fun r => q (h1.trans r)) ?_))
    · exact ds_113 rfl h1 h2 k3 (fun r => k4 (w0 r)) (fun r => k5 (w1 r)) k6 k7 k8 hp
    · exact ds_113 rfl h1 h2 k3 (fun r => k4 (w0 r)) (fun r => k5 (w1 r)) k6 k7 k8 hp
  · exact ds_hasNoteN h (br_f h (ds_113 rfl h1 h2 k3 (fun r => k4 (w0 r)) (fun r => k5 (w1 r)) k6 k7 k8 hp))

/-- begin, then the rest -/
theorem ds_20 {x0 x1 x2 x3 x4 z0 : Int32} (hz : z0 = 0 ∨ z0 = 1) (hp : post 1 ()) :
    wL_lawOf_20 post mc ms x0 x1 x2 x3 x4 z0 kc ks 0 0 0 0 0 0 0 0 0 0 0 0 0 a1 a2 a3 a4 a5 a6 a7 a8 := by
  unfold wL_lawOf_20
  refine ds_begin hz (fun n' b1 b2 k1 k2 => br_t rfl (br_c (fun h => ?_) (fun h => ?_)))
  · exact ds_46 (Or.inl rfl) (fun _ => rfl) (fun q => absurd h q) k1 k2 hp
  · exact ds_46 (Or.inr rfl) (fun q => absurd q h) (fun _ => by decide) k1 k2 hp

theorem ds_lawOf {p0 p1 p2 p3 p4 : Int32} (hc : 9 ≤ mc) (hs : 473 ≤ ms) (hp : post 1 ()) : wpL_lawOf post mc ms () p0 p1 p2 p3 p4 := by
  unfold wpL_lawOf
  refine ⟨by omega, by omega, 8, 452, by omega, by omega, ?_⟩
  unfold wpX_init
  refine ⟨by decide, by decide, by decide, by decide, by decide, by decide, by decide, by decide, by decide, by decide, by decide, by decide, by decide, by decide, by decide, by decide, ?_⟩
  exact br_c (fun _ => ds_20 (Or.inl rfl) hp) (fun _ => ds_20 (Or.inr rfl) hp)
end

theorem ds_cell {post : Int32 → Prop} {L : Nat} {xs : Nat → Int32} (hL : L ≤ 5) {p : Int32} (k : Nat) (hk : k < 5) (hx : p = nI k) (H : ∀ r, post r) : wpL_cellAt post L xs () p := by
  unfold wpL_cellAt
  subst hx
  exact br_c (fun _ => H 0) (fun h => ⟨vp_in_nI (Nat.lt_of_not_le (fun q => h (nI_le q (by omega)))) (by omega), H _⟩)

theorem i_vc (xs : Nat → Int32) (L : Nat) (hL : L ≤ 5) : wpL_law (fun r => r = 1) L xs := by
  unfold wpL_law
  exact ds_cell hL 0 (by decide) rfl (fun _ => ds_cell hL 1 (by decide) rfl (fun _ => ds_cell hL 2 (by decide) rfl (fun _ => ds_cell hL 3 (by decide) rfl (fun _ => ds_cell hL 4 (by decide) rfl (fun _ =>
    ⟨9, 473, by decide, by decide, ds_lawOf (by decide) (by decide) rfl⟩)))))
end
