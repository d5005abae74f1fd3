section
/-- the instructions that want a cell: at height 0 the judge says UNDER -/
def pj_nd (op : Int32) : Prop := op = 2 ∨ op = 3 ∨ op = 4 ∨ op = 5 ∨ op = 6 ∨ op = 7 ∨ op = 9 ∨ op = 12 ∨ op = 13
/-- those that want none -/
def pj_fr (op : Int32) : Prop := op = 0 ∨ op = 1 ∨ op = 8 ∨ op = 10 ∨ op = 11
/-- the fault d that is due for a program of the one instruction (op, x) -/
def pj_R (op x d : Int32) : Prop := (pj_nd op ∧ d = 1) ∨ (op = 10 ∧ x = 0 ∧ d = 0) ∨ (pj_fr op ∧ ¬ (op = 10 ∧ x = 0) ∧ d = 8)
theorem pj_z {x : Int32} (a : ¬ x < 0) (b : ¬ 1 ≤ x) : x = 0 := by
  obtain ⟨j, hj, rfl⟩ := nI_of a
  have hj0 : ¬ 1 ≤ j := fun h => b (nI_le h hj)
  have e : j = 0 := by omega
  rw [e]
  rfl
theorem pj_fr13 {op : Int32} (h : pj_fr op) : ¬ op = 13 := by
  rcases h with rfl | rfl | rfl | rfl | rfl
  all_goals decide
theorem pj_needs_nd {post : Int32 → Prop} {op : Int32} (h : pj_nd op) (h1 : post 1) (h2 : post 2) : wpX_needs post () op := by
  unfold wpX_needs
  rcases h with rfl | rfl | rfl | rfl | rfl | rfl | rfl | rfl | rfl
  all_goals repeat (first | exact h1 | exact h2 | refine br_t rfl ?_ | refine br_f (by decide) ?_)
theorem pj_needs_fr {post : Int32 → Prop} {op : Int32} (h : pj_fr op) (h0 : post 0) : wpX_needs post () op := by
  unfold wpX_needs
  rcases h with rfl | rfl | rfl | rfl | rfl
  all_goals repeat (first | exact h0 | refine br_f (by decide) ?_)
theorem pj_growth_fr {post : Int32 → Prop} {op : Int32} (h : pj_fr op) (h0 : (op = 10 ∨ op = 11) → post 0) (h1 : (op = 0 ∨ op = 1 ∨ op = 8) → post 1) : wpX_growth post () op := by
  unfold wpX_growth
  rcases h with rfl | rfl | rfl | rfl | rfl
  all_goals repeat (first | exact h1 (by decide) | exact h0 (by decide) | refine br_t rfl ?_ | refine br_f (by decide) ?_)
theorem pj_kind_fr {post : Int32 → Prop} {op m : Int32} (h : pj_fr op) (h0 : post 0) : wpX_kindFault post () op 0 m := by
  unfold wpX_kindFault
  refine br_t (by decide) ?_
  unfold wX_kindFault_15
  refine br_t (by decide) ?_
  unfold wX_kindFault_32
  rcases h with rfl | rfl | rfl | rfl | rfl
  all_goals exact br_f (by decide) (br_f (by decide) (br_f (by decide) (br_f (by decide) (br_f (by decide) (br_t rfl h0)))))
theorem pj_after_fr {post : Int32 → Prop} {op x m : Int32} (h : pj_fr op) (h0 : (op = 10 ∨ op = 11) → post m) (h1 : (op = 0 ∨ op = 1 ∨ op = 8) → ∀ r, post r) : wpX_after post () op x 0 m := by
  unfold wpX_after
  rcases h with rfl | rfl | rfl | rfl | rfl
  all_goals refine br_f (by decide) (br_f (by decide) ?_)
  all_goals repeat (first | exact h0 (by decide) | refine br_t rfl ?_ | refine br_f (by decide) ?_)
  all_goals exact fun _ _ => h1 (by decide) _
section
variable {mh pl sz qh qc jd st av tp md ch fk : Int32} {a1 a2 a3 a4 a5 a6 a7 a8 a9 a10 : Nat → Int32}
theorem pj_room_nd {post : Int32 → Prop} {op : Int32} (h : pj_nd op) (h1 : post 1) : wpX_roomFault post (mh, pl, sz, qh, qc, jd, st, av, tp, md, ch, fk, a1, a2, a3, a4, a5, a6, a7, a8, a9, a10) op 0 := by
  unfold wpX_roomFault
  exact pj_needs_nd h (br_f (by decide) h1) (br_f (by decide) h1)
theorem pj_room_fr {post : Int32 → Prop} {op : Int32} (hm : 0 < mh) (h : pj_fr op) (h0 : post 0) : wpX_roomFault post (mh, pl, sz, qh, qc, jd, st, av, tp, md, ch, fk, a1, a2, a3, a4, a5, a6, a7, a8, a9, a10) op 0 := by
  unfold wpX_roomFault
  exact pj_needs_fr h (br_t (by decide) (pj_growth_fr h (fun _ => br_t (by decide) h0) (fun _ => br_f (by decide) (br_t hm h0))))
theorem pj_next {post : Int32 → Prop} {op : Int32} (ho : a1 0 = op) (h : pj_fr op) (h0 : op = 10 → post (a2 0)) (h1 : ¬ op = 10 → post 1) : wpX_mainNext post (mh, pl, sz, qh, qc, jd, st, av, tp, md, ch, fk, a1, a2, a3, a4, a5, a6, a7, a8, a9, a10) 0 := by
  unfold wpX_mainNext
  exact ⟨pk_in 0 16 (by decide), nm_r ho (br_f (pj_fr13 h) (br_c (fun e => ⟨pk_in 0 16 (by decide), h0 e⟩) h1))⟩
theorem pj_next10 {post : Int32 → Prop} (ho : a1 0 = 10) (h2 : a2 0 = 0) (hp : post 0) : wpX_mainNext post (mh, pl, sz, qh, qc, jd, st, av, tp, md, ch, fk, a1, a2, a3, a4, a5, a6, a7, a8, a9, a10) 0 := by
  refine pj_next ho (Or.inr (Or.inr (Or.inr (Or.inl rfl)))) (fun _ => ?_) (fun z => absurd rfl z)
  rw [h2]
  exact hp
theorem pj_inside {post : Int32 → Prop} {x : Int32} (h0 : ¬ x = 0 → post 0) (h1 : x = 0 → post 1) : wpX_inside post (mh, pl, 1, qh, qc, jd, st, av, tp, md, ch, fk, a1, a2, a3, a4, a5, a6, a7, a8, a9, a10) x := by
  unfold wpX_inside
  refine br_c (fun z => h0 ?_) (fun z => br_c (fun y => h0 ?_) (fun y => h1 (pj_z z y)))
  · intro e
    rw [e] at z
    exact absurd z (by decide)
  · intro e
    rw [e] at y
    exact absurd y (by decide)
theorem pj_inside0 {post : Int32 → Prop} (h : post 0) : wpX_inside post (mh, pl, 0, qh, qc, jd, st, av, tp, md, ch, fk, a1, a2, a3, a4, a5, a6, a7, a8, a9, a10) 0 := by
  unfold wpX_inside
  exact br_f (by decide) (br_t (by decide) h)
theorem pj_inside1 {post : Int32 → Prop} (h : post 1) : wpX_inside post (mh, pl, 1, qh, qc, jd, st, av, tp, md, ch, fk, a1, a2, a3, a4, a5, a6, a7, a8, a9, a10) 0 := by
  unfold wpX_inside
  exact br_f (by decide) (br_f (by decide) h)
theorem pj_reach_same {post : St2 → Prop} {x h m : Int32} (ex : x = 0) (eh : h = 0) (h3 : a3 0 = m) (hp : post (mh, pl, sz, qh, qc, jd, st, av, tp, md, ch, fk, a1, a2, a3, a4, a5, a6, a7, a8, a9, a10)) : wpX_reach post (mh, pl, sz, qh, qc, jd, st, av, tp, md, ch, fk, a1, a2, a3, a4, a5, a6, a7, a8, a9, a10) x h m := by
  subst ex
  subst eh
  unfold wpX_reach
  refine nm_r (e' := 0) (by decide) ⟨pk_in 0 80 (by decide), nm_r (e' := m) ?_ ⟨pk_in 0 80 (by decide), br_t h3.symm hp⟩⟩
  show a3 0 ||| m = m
  rw [h3]
  exact Int32.or_self
theorem pj_visit_no {post : St2 → Prop} {x h s : Int32} (eh : x = 0 → h = 0) (h7 : 0 ≤ a7 0) (hp : post (mh, pl, 1, qh, qc, jd, st, av, tp, md, ch, fk, a1, a2, a3, a4, a5, a6, a7, a8, a9, a10)) : wpX_visit post (mh, pl, 1, qh, qc, jd, st, av, tp, md, ch, fk, a1, a2, a3, a4, a5, a6, a7, a8, a9, a10) x h s := by
  unfold wpX_visit
  refine pj_inside (fun _ => br_t rfl hp) (fun z => br_f (by decide) (nm_r (e' := 0) ?_ ⟨pk_in 0 80 (by decide), br_t h7 hp⟩))
  rw [z, eh z]
  decide
end
end
section
theorem pj_fill {s : Nat → Int32} {i k : Nat} {c : Int32} (hk : k = i) (h : ∀ j, j < i → s j = c) : ∀ j, j < i + 1 → upd s k c j = c := by
  intro j hj
  rw [hk]
  by_cases e : j = i
  · rw [e, pk_us]
  · rw [pk_un e]
    exact h j (by omega)
section
variable {mh pl sz qh qc jd st av tp md ch fk : Int32} {a1 a2 a3 a4 a5 a6 a7 a8 a9 a10 : Nat → Int32}
theorem pj_reset37 {post : St2 → Prop} (hp : ∀ b6, (∀ j, j < 16 → b6 j = 0) → post (mh, pl, sz, 0, 0, jd, st, av, tp, md, ch, fk, a1, a2, a3, a4, a5, b6, a7, a8, a9, a10)) : ∃ n, wX_reset_37 post mh pl sz qh qc jd st av tp md ch fk n 0 a1 a2 a3 a4 a5 a6 a7 a8 a9 a10 :=
  pk_loop (fun n i s => wX_reset_37 post mh pl sz qh qc jd st av tp md ch fk n (nI i) a1 a2 a3 a4 a5 s a7 a8 a9 a10) (fun i s => ∀ j, j < i → s j = 0) 16 0 a6 (by omega) (fun j hj => absurd hj (by omega))
    (fun n s h => pk_le 16 16 (fun _ => hp s h) (fun z => absurd z (by omega)))
    (fun n i s hi h hw => pk_le 16 i (fun z => absurd z (by omega)) (fun _ => ⟨pk_in i 16 hi, nm_e (nm_r (nI_1 i) (hw _ (pj_fill (nI_clamp (by omega)) h)))⟩))
theorem pj_reset {post : St2 → Prop} (hp : ∀ b3 b4 b6 b7, (∀ j, j < 80 → b3 j = 0) → (∀ j, j < 80 → b4 j = 0) → (∀ j, j < 16 → b6 j = 0) → (∀ j, j < 80 → b7 j = (-1)) → post (mh, pl, sz, 0, 0, jd, st, av, tp, md, ch, fk, a1, a2, b3, b4, a5, b6, b7, a8, a9, a10)) : wpX_reset post (mh, pl, sz, qh, qc, jd, st, av, tp, md, ch, fk, a1, a2, a3, a4, a5, a6, a7, a8, a9, a10) := by
  unfold wpX_reset
  exact pk_loop (σ := (Nat → Int32) × (Nat → Int32) × (Nat → Int32)) (fun n i s => wX_reset_2 post mh pl sz qh qc jd st av tp md ch fk n (nI i) a1 a2 s.1 s.2.1 a5 a6 s.2.2 a8 a9 a10)
    (fun i s => (∀ j, j < i → s.1 j = 0) ∧ (∀ j, j < i → s.2.1 j = 0) ∧ (∀ j, j < i → s.2.2 j = (-1))) 80 0 (a3, a4, a7) (by omega)
    ⟨fun j hj => absurd hj (by omega), fun j hj => absurd hj (by omega), fun j hj => absurd hj (by omega)⟩
    (fun n s h => pk_le 80 80 (fun _ => pj_reset37 (fun b6 h6 => hp s.1 s.2.1 b6 s.2.2 h.1 h.2.1 h6 h.2.2)) (fun z => absurd z (by omega)))
    (fun n i s hi h hw => pk_le 80 i (fun z => absurd z (by omega)) (fun _ => ⟨pk_in i 80 hi, nm_e ⟨pk_in i 80 hi, nm_e ⟨pk_in i 80 hi, nm_e (nm_r (nI_1 i) (hw (_, _, _) ⟨pj_fill (nI_clamp (by omega)) h.1, pj_fill (nI_clamp (by omega)) h.2.1, pj_fill (nI_clamp (by omega)) h.2.2⟩))⟩⟩⟩))
theorem pj_spread74 {post : St2 → Prop} {op m h x : Int32} (h3 : a3 0 = m) (hh : op = 11 → h = 0 ∧ x = m) (hp : post (mh, pl, 1, qh, qc, jd, st, av, tp, md, ch, fk, a1, a2, a3, a4, a5, a6, a7, a8, a9, a10)) : wX_spread_74 post 0 op x h mh pl 1 qh qc jd st av tp md ch fk a1 a2 a3 a4 a5 a6 a7 a8 a9 a10 := by
  unfold wX_spread_74
  refine br_c (fun e => ⟨pk_in 0 16 (by decide), ?_⟩) (fun _ => hp)
  refine pj_inside (fun _ => br_t rfl hp) (fun z => br_f (by decide) ⟨pk_in 0 16 (by decide), ?_⟩)
  obtain ⟨e1, e2⟩ := hh e
  exact pj_reach_same z e1 (h3.trans e2.symm) hp
theorem pj_spread {post : St2 → Prop} {op : Int32} (hm : 0 < mh) (ho : a1 0 = op) (hk : pj_nd op ∨ pj_fr op) (hp : post (mh, pl, 1, qh, qc, jd, st, av, tp, md, ch, fk, a1, a2, a3, a4, a5, a6, a7, a8, a9, a10)) : wpX_spread post (mh, pl, 1, qh, qc, jd, st, av, tp, md, ch, fk, a1, a2, a3, a4, a5, a6, a7, a8, a9, a10) 0 0 := by
  unfold wpX_spread
  refine ⟨pk_in 0 16 (by decide), nm_r ho ?_⟩
  rcases hk with h | h
  · exact pj_room_nd h (br_f (by decide) hp)
  · refine pj_room_fr hm h (br_t rfl ⟨pk_in 0 16 (by decide), pk_in 0 80 (by decide), ?_⟩)
    refine pj_after_fr h (fun e => ?_) (fun e r => ?_)
    · refine pj_growth_fr h (fun _ => ?_) (fun e' => ?_)
      · refine nm_r (e' := 0) (by decide) (pj_next ho h (fun e10 => ?_) (fun _ => ?_))
        · refine pj_inside (fun _ => br_t rfl ?_) (fun z => br_f (by decide) ?_)
          · exact pj_spread74 (m := a3 0) rfl (fun _ => ⟨rfl, rfl⟩) hp
          · exact pj_reach_same z rfl rfl (pj_spread74 (m := a3 0) rfl (fun _ => ⟨rfl, rfl⟩) hp)
        · refine pj_inside (fun _ => br_t rfl ?_) (fun z => absurd z (by decide))
          exact pj_spread74 (m := a3 0) rfl (fun _ => ⟨rfl, rfl⟩) hp
      · rcases e with rfl | rfl
        all_goals exact absurd e' (by decide)
    · have n10 : ¬ op = 10 := by rcases e with rfl | rfl | rfl <;> decide
      have n11 : ¬ op = 11 := by rcases e with rfl | rfl | rfl <;> decide
      refine pj_growth_fr h (fun z => absurd z (fun w => w.elim n10 n11)) (fun _ => ?_)
      refine nm_e (pj_next ho h (fun z => absurd z n10) (fun _ => ?_))
      refine pj_inside (fun _ => br_t rfl ?_) (fun z => absurd z (by decide))
      exact pj_spread74 (m := a3 0) rfl (fun z => absurd z n11) hp
theorem pj_faultsOf {post : Int32 → Prop} {op d : Int32} (hm : 0 < mh) (ho : a1 0 = op) (hr : pj_R op (a2 0) d) (hp : post d) : wpX_faultsOf post (mh, pl, 1, qh, qc, jd, st, av, tp, md, ch, fk, a1, a2, a3, a4, a5, a6, a7, a8, a9, a10) 0 0 := by
  unfold wpX_faultsOf
  refine ⟨pk_in 0 16 (by decide), nm_r ho ?_⟩
  rcases hr with ⟨h, rfl⟩ | ⟨rfl, h2, rfl⟩ | ⟨h, hn, rfl⟩
  · exact pj_room_nd h (br_f (by decide) hp)
  · have h : pj_fr 10 := Or.inr (Or.inr (Or.inr (Or.inl rfl)))
    refine pj_room_fr hm h (br_t rfl ⟨pk_in 0 80 (by decide), pj_kind_fr h (pj_next10 ho h2 (br_f (by decide) (pj_inside1 (br_f (by decide) ?_))))⟩)
    unfold wX_faultsOf_66 wX_faultsOf_67
    exact br_f (by decide) (br_t rfl hp)
  · refine pj_room_fr hm h (br_t rfl ⟨pk_in 0 80 (by decide), pj_kind_fr h (pj_next ho h (fun e => br_f (pj_fr13 h) (pj_inside (fun _ => br_t rfl ?_) (fun z => absurd ⟨e, z⟩ hn))) (fun _ => br_f (pj_fr13 h) (pj_inside (fun _ => br_t rfl ?_) (fun z => absurd z (by decide)))))⟩)
    all_goals unfold wX_faultsOf_67
    all_goals refine br_c (fun _ => ⟨pk_in 0 16 (by decide), pj_inside (fun _ => br_t rfl ?_) (fun _ => br_f (by decide) ?_)⟩) (fun _ => ?_)
    all_goals exact br_f (by decide) hp
theorem pj_note {post : St2 → Prop} {op d : Int32} (hm : 0 < mh) (ho : a1 0 = op) (hr : pj_R op (a2 0) d) (h3 : a3 0 = 147456) (h3' : ∀ j, 0 < j → j < 80 → a3 j = 0) (h6 : a6 0 = 0) (hp : ∀ b6, b6 0 = d → post (mh, pl, 1, qh, qc, jd, st, av, tp, md, ch, fk, a1, a2, a3, a4, a5, b6, a7, a8, a9, a10)) : wpX_note post (mh, pl, 1, qh, qc, jd, st, av, tp, md, ch, fk, a1, a2, a3, a4, a5, a6, a7, a8, a9, a10) := by
  have hd : (0 ||| d).toInt8.toInt32 = d := by
    rcases hr with ⟨_, rfl⟩ | ⟨_, _, rfl⟩ | ⟨_, _, rfl⟩
    all_goals decide
  unfold wpX_note
  refine pk_loop (fun n i s => wX_note_2 post mh pl 1 qh qc jd st av tp md ch fk n (nI i) a1 a2 a3 a4 a5 s a7 a8 a9 a10) (fun i s => (i = 0 → s 0 = 0) ∧ (0 < i → s 0 = d)) 80 0 a6 (by omega) ⟨fun _ => h6, fun z => absurd z (by omega)⟩
    (fun n s h => pk_le 80 80 (fun _ => hp s (h.2 (by omega))) (fun z => absurd z (by omega)))
    (fun n i s hi h hw => pk_le 80 i (fun z => absurd z (by omega)) (fun _ => ⟨pk_in i 80 hi, ?_⟩))
  by_cases e : i = 0
  · subst e
    refine br_f ?_ ⟨by decide, nm_r (e' := 0) (by decide) ⟨pk_in 0 16 (by decide), by decide, ?_⟩⟩
    · show ¬ a3 0 = 0
      rw [h3]
      decide
    · refine pj_faultsOf hm ho hr ⟨pk_in 0 16 (by decide), nm_e (nm_r (nI_1 0) (hw _ ⟨fun z => absurd z (by omega), fun _ => ?_⟩))⟩
      show upd s 0 ((s 0 ||| d).toInt8.toInt32) 0 = d
      rw [pk_us, h.1 rfl, hd]
  · refine br_t ?_ (nm_r (nI_1 i) (hw s ⟨fun z => absurd z (by omega), fun _ => h.2 (by omega)⟩))
    rw [nI_clamp (by omega)]
    exact h3' i (by omega) hi
end
end
section
section
variable {mh pl sz qh qc jd st av tp md ch fk : Int32} {a1 a2 a3 a4 a5 a6 a7 a8 a9 a10 : Nat → Int32}
/-- the walk's second round: the queue is empty -/
theorem pj_measure_end {post : St2 → Prop} (hp : post (mh, pl, 1, 1, 0, jd, st, av, tp, md, ch, fk, a1, a2, a3, a4, a5, a6, a7, a8, a9, a10)) : wX_measure_19 post 1 1 mh pl 1 1 0 jd st av tp md ch fk a1 a2 a3 a4 a5 a6 a7 a8 a9 a10 :=
  br_f (by decide) (br_t (by decide) hp)
theorem pj_measure144 {post : St2 → Prop} {h s z : Int32} (hz : z = 0 → h = 0) (h7 : 0 ≤ a7 0) (hp : post (mh, pl, 1, 1, 0, jd, st, av, tp, md, ch, fk, a1, a2, a3, a4, a5, a6, a7, a8, a9, a10)) : wX_measure_144 post (wX_measure_19 post 1) 0 h s z mh pl 1 1 0 jd st av tp md ch fk a1 a2 a3 a4 a5 a6 a7 a8 a9 a10 := by
  unfold wX_measure_144
  refine pj_visit_no hz h7 ?_
  exact nm_r (e' := 1) (by decide) (pj_measure_end hp)
theorem pj_measure19 {post : St2 → Prop} {op : Int32} (hm : 0 < mh) (ho : a1 0 = op) (hk : pj_nd op ∨ pj_fr op) (h5 : a5 0 = 0) (h7 : 0 ≤ a7 0) (hp : post (mh, pl, 1, 1, 0, jd, st, av, tp, md, ch, fk, a1, a2, a3, a4, a5, a6, a7, a8, a9, a10)) : wX_measure_19 post 2 0 mh pl 1 0 1 jd st av tp md ch fk a1 a2 a3 a4 a5 a6 a7 a8 a9 a10 := by
  refine br_f (by decide) (br_f (by decide) ⟨pk_in 0 128 (by decide), nm_r (e' := 0) h5 (nm_r (e' := 1) (by decide) (nm_r (e' := 0) (by decide) ⟨by decide, nm_r (e' := 0) (by decide) ⟨pk_in 0 16 (by decide), nm_r ho ⟨by decide, nm_r (e' := 0) (by decide) ?_⟩⟩⟩))⟩)
  rcases hk with h | h
  · exact pj_room_nd h (br_f (by decide) (nm_r (e' := 1) (by decide) (pj_measure_end hp)))
  · refine pj_room_fr hm h (br_t rfl ?_)
    refine pj_growth_fr h (fun e => nm_r (e' := 0) (by decide) ⟨pk_in 0 80 (by decide), nm_e ?_⟩) (fun e => nm_r (e' := 1) (by decide) ⟨pk_in 0 80 (by decide), nm_e ?_⟩)
    · refine pj_next ho h (fun e10 => ?_) (fun _ => ?_)
      all_goals refine pj_visit_no (fun _ => rfl) h7 ?_
      all_goals exact br_c (fun _ => ⟨pk_in 0 16 (by decide), pj_measure144 (fun _ => rfl) h7 hp⟩) (fun _ => pj_measure144 (fun _ => rfl) h7 hp)
    · have n10 : ¬ op = 10 := by rcases e with rfl | rfl | rfl <;> decide
      have n11 : ¬ op = 11 := by rcases e with rfl | rfl | rfl <;> decide
      refine pj_next ho h (fun z => absurd z n10) (fun _ => ?_)
      refine pj_visit_no (fun z => absurd z (by decide)) h7 ?_
      exact br_f n11 (pj_measure144 (fun z => absurd z (by decide)) h7 hp)
theorem pj_measure {post : St2 → Prop} {op : Int32} (hm : 0 < mh) (ho : a1 0 = op) (hk : pj_nd op ∨ pj_fr op) (h7 : a7 0 = (-1)) (hp : ∀ b5 b7, post (mh, pl, 1, 1, 0, jd, st, av, tp, md, ch, fk, a1, a2, a3, a4, b5, a6, b7, a8, a9, a10)) : wpX_measure post (mh, pl, 1, qh, qc, jd, st, av, tp, md, ch, fk, a1, a2, a3, a4, a5, a6, a7, a8, a9, a10) := by
  unfold wpX_measure wpX_visit
  refine pj_inside1 (br_f (by decide) (nm_r (e' := 0) (by decide) ⟨pk_in 0 80 (by decide), br_f ?_ ⟨pk_in 0 80 (by decide), nm_e ⟨pk_in 0 128 (by decide), nm_e (nm_r (e' := 1) (by decide) ?_)⟩⟩⟩))
  · show ¬ 0 ≤ a7 0
    rw [h7]
    decide
  · refine ⟨2, pj_measure19 hm ho hk ?_ ?_ (hp _ _)⟩
    · show upd a5 0 ((0 : Int32).toInt8.toInt32) 0 = 0
      rw [pk_us]
      decide
    · show 0 ≤ upd a7 0 ((0 : Int32).toInt16.toInt32) 0
      rw [pk_us]
      decide
/-- what the judge leaves: the first node alone is reached, and the fault d is noted -/
def pj_J (d : Int32) (b3 b6 : Nat → Int32) : Prop := b3 0 = 147456 ∧ (∀ j, 0 < j → j < 80 → b3 j = 0) ∧ b6 0 = d
theorem pj_R_k {op x d : Int32} (h : pj_R op x d) : pj_nd op ∨ pj_fr op := by
  rcases h with ⟨h, _⟩ | ⟨rfl, _, _⟩ | ⟨h, _, _⟩
  · exact Or.inl h
  · exact Or.inr (Or.inr (Or.inr (Or.inr (Or.inl rfl))))
  · exact Or.inr h
theorem pj_judge122 {post : St2 → Prop} {op d : Int32} (hm : 0 < mh) (ho : a1 0 = op) (hr : pj_R op (a2 0) d) (h3 : a3 0 = 147456) (h3' : ∀ j, 0 < j → j < 80 → a3 j = 0) (h6 : a6 0 = 0) (h7 : a7 0 = (-1)) (hp : ∀ b5 b6 b7, pj_J d a3 b6 → post (mh, pl, 1, 1, 0, jd, st, av, tp, md, ch, fk, a1, a2, a3, a4, b5, b6, b7, a8, a9, a10)) : wX_judge_122 post mh pl 1 qh qc jd st av tp md ch fk a1 a2 a3 a4 a5 a6 a7 a8 a9 a10 := by
  unfold wX_judge_122
  refine pj_note hm ho hr h3 h3' h6 (fun b6 e6 => ?_)
  exact pj_measure hm ho (pj_R_k hr) h7 (fun b5 b7 => hp b5 b6 b7 ⟨h3, h3', e6⟩)
theorem pj_judge {post : St2 → Prop} {op d : Int32} (hm : 0 < mh) (ho : a1 0 = op) (hr : pj_R op (a2 0) d) (hp : ∀ b3 b4 b5 b6 b7, pj_J d b3 b6 → post (mh, pl, 1, 1, 0, 1, st, av, tp, md, ch, fk, a1, a2, b3, b4, b5, b6, b7, a8, a9, a10)) : wpX_judge post (mh, pl, 1, qh, qc, 0, st, av, tp, md, ch, fk, a1, a2, a3, a4, a5, a6, a7, a8, a9, a10) := by
  unfold wpX_judge
  refine br_t rfl (pj_reset (fun b3 b4 b6 b7 h3 h4 h6 h7 => ?_))
  refine br_f (by decide) ?_
  refine nm_e (P := fun _ => _) ?_
  refine nm_e (P := fun _ => _) ?_
  unfold wpX_reach
  refine nm_r (e' := 0) (by decide) ⟨pk_in 0 80 (by decide), nm_r (e' := 147456) ?_ ⟨pk_in 0 80 (by decide), br_f ?_ ⟨pk_in 0 80 (by decide), nm_e ⟨pk_in 0 80 (by decide), br_t ?_ ⟨pk_in 0 80 (by decide), nm_e ⟨pk_in 0 128 (by decide), nm_e (nm_r (e' := 1) (by decide) ?_)⟩⟩⟩⟩⟩⟩
  · show b3 0 ||| _ = _
    rw [h3 0 (by omega)]
    decide
  · show ¬ 147456 = b3 0
    rw [h3 0 (by omega)]
    decide
  · exact h4 0 (by omega)
  · refine ⟨2, br_f (by decide) (br_f (by decide) ⟨pk_in 0 128 (by decide), nm_r (e' := 0) ?_ (nm_r (e' := 1) (by decide) (nm_r (e' := 0) (by decide) ⟨pk_in 0 80 (by decide), nm_e ⟨by decide, by decide, ?_⟩⟩))⟩)⟩
    · show upd a5 0 ((0 : Int32).toInt8.toInt32) 0 = 0
      rw [pk_us]
      decide
    · refine pj_spread hm ho (pj_R_k hr) (nm_r (e' := 1) (by decide) (br_f (by decide) (br_t (by decide) ?_)))
      refine pj_judge122 hm ho hr ?_ ?_ (h6 0 (by omega)) (h7 0 (by omega)) (fun b5 b6 b7 hJ => hp _ _ b5 b6 b7 hJ)
      · show upd b3 0 147456 0 = 147456
        rw [pk_us]
      · intro j h0 hj
        show upd b3 0 147456 j = 0
        rw [pk_un (by omega)]
        exact h3 j hj
/-- the judge asked again -/
theorem pj_judged {post : St2 → Prop} (hp : post (mh, pl, sz, qh, qc, 1, st, av, tp, md, ch, fk, a1, a2, a3, a4, a5, a6, a7, a8, a9, a10)) : wpX_judge post (mh, pl, sz, qh, qc, 1, st, av, tp, md, ch, fk, a1, a2, a3, a4, a5, a6, a7, a8, a9, a10) := by
  unfold wpX_judge
  exact br_f (by decide) hp
end
end
section
section
variable {mh pl sz qh qc jd st av tp md ch fk : Int32} {a1 a2 a3 a4 a5 a6 a7 a8 a9 a10 : Nat → Int32}
theorem pj_faults {post : Int32 → St2 → Prop} {op d : Int32} (hm : 0 < mh) (ho : a1 0 = op) (hr : pj_R op (a2 0) d) (hp : ∀ b3 b4 b5 b6 b7, pj_J d b3 b6 → post d (mh, pl, 1, 1, 0, 1, st, av, tp, md, ch, fk, a1, a2, b3, b4, b5, b6, b7, a8, a9, a10)) : wpX_faults post (mh, pl, 1, qh, qc, 0, st, av, tp, md, ch, fk, a1, a2, a3, a4, a5, a6, a7, a8, a9, a10) 0 := by
  unfold wpX_faults
  refine pj_inside1 (br_f (by decide) (pj_judge hm ho hr (fun b3 b4 b5 b6 b7 hJ => ⟨pk_in 0 16 (by decide), ?_⟩)))
  show post (b6 0) _
  rw [hJ.2.2]
  exact hp b3 b4 b5 b6 b7 hJ
theorem pj_heights {post : Int32 → St2 → Prop} {d : Int32} (hJ : pj_J d a3 a6) (hp : post 1 (mh, pl, 1, qh, qc, 1, st, av, tp, md, ch, fk, a1, a2, a3, a4, a5, a6, a7, a8, a9, a10)) : wpX_heights post (mh, pl, 1, qh, qc, 1, st, av, tp, md, ch, fk, a1, a2, a3, a4, a5, a6, a7, a8, a9, a10) 0 := by
  unfold wpX_heights
  refine pj_inside1 (br_f (by decide) (pj_judged ?_))
  have z : ∀ j, 0 < j → j < 80 → a3 j = 0 := hJ.2.1
  refine ⟨6, br_f (by decide) ⟨pk_in 0 80 (by decide), br_f ?_ (nm_r (e' := 1) (by decide) (nm_r (e' := 1) (by decide) ?_))⟩⟩
  · show ¬ a3 0 = 0
    rw [hJ.1]
    decide
  refine br_f (by decide) ⟨pk_in 1 80 (by decide), br_t (z 1 (by omega) (by omega)) (nm_r (e' := 2) (by decide) ?_)⟩
  refine br_f (by decide) ⟨pk_in 2 80 (by decide), br_t (z 2 (by omega) (by omega)) (nm_r (e' := 3) (by decide) ?_)⟩
  refine br_f (by decide) ⟨pk_in 3 80 (by decide), br_t (z 3 (by omega) (by omega)) (nm_r (e' := 4) (by decide) ?_)⟩
  refine br_f (by decide) ⟨pk_in 4 80 (by decide), br_t (z 4 (by omega) (by omega)) (nm_r (e' := 5) (by decide) ?_)⟩
  exact br_t (by decide) hp
theorem pj_kinds {post : Int32 → St2 → Prop} {d : Int32} (hJ : pj_J d a3 a6) (hp : post 4 (mh, pl, 1, qh, qc, 1, st, av, tp, md, ch, fk, a1, a2, a3, a4, a5, a6, a7, a8, a9, a10)) : wpX_kinds post (mh, pl, 1, qh, qc, 1, st, av, tp, md, ch, fk, a1, a2, a3, a4, a5, a6, a7, a8, a9, a10) 0 0 4 := by
  unfold wpX_kinds
  refine pj_inside1 (br_f (by decide) (br_f (by decide) (br_t (by decide) (br_f (by decide) (br_t (by decide) ?_)))))
  unfold wX_kinds_32 wX_kinds_33
  refine br_t rfl (br_t rfl ?_)
  unfold wX_kinds_52
  refine pj_judged ⟨pk_in 0 80 (by decide), ?_⟩
  unfold wpX_kindAt
  show post ((a3 0 >>> ((3 * 4) &&& 31)) &&& 7) _
  rw [hJ.1]
  exact hp
theorem pj_verdict {post : Int32 → St2 → Prop} {d : Int32} (hJ : pj_J d a3 a6) (h0 : d = 0 → post 0 (mh, pl, 1, qh, qc, 1, st, av, tp, md, ch, fk, a1, a2, a3, a4, a5, a6, a7, a8, a9, a10)) (h1 : ¬ d = 0 → post 1 (mh, pl, 1, qh, qc, 1, st, av, tp, md, ch, fk, a1, a2, a3, a4, a5, a6, a7, a8, a9, a10)) : wpX_verdict post (mh, pl, 1, qh, qc, 1, st, av, tp, md, ch, fk, a1, a2, a3, a4, a5, a6, a7, a8, a9, a10) := by
  unfold wpX_verdict
  refine br_f (by decide) (pj_judged ⟨2, br_f (by decide) ⟨pk_in 0 16 (by decide), nm_r (e' := d) ?_ (nm_r (e' := 1) (by decide) (br_t (by decide) (br_c h0 h1)))⟩⟩)
  show 0 ||| a6 0 = d
  rw [hJ.2.2]
  exact Int32.zero_or
theorem pj_start {post : Int32 → St2 → Prop} {d c : Int32} (hJ : pj_J d a3 a6) (h0 : d = 0 → ∀ b9, post 1 (mh, pl, 1, qh, qc, 1, 1, 0, 0, 0, c, 0, a1, a2, a3, a4, a5, a6, a7, a8, b9, a10)) (h1 : ¬ d = 0 → post 0 (mh, pl, 1, qh, qc, 1, st, av, tp, md, ch, fk, a1, a2, a3, a4, a5, a6, a7, a8, a9, a10)) : wpX_start post (mh, pl, 1, qh, qc, 1, st, av, tp, md, ch, fk, a1, a2, a3, a4, a5, a6, a7, a8, a9, a10) c := by
  unfold wpX_start
  exact pj_verdict hJ (fun e => br_t rfl (nm_e (nm_e (h0 e _)))) (fun e => br_f (by decide) (h1 e))
theorem pj_step_idle {post : Int32 → St2 → Prop} (hp : post 0 (mh, pl, sz, qh, qc, jd, 0, av, tp, md, ch, fk, a1, a2, a3, a4, a5, a6, a7, a8, a9, a10)) : wpX_step post (mh, pl, sz, qh, qc, jd, 0, av, tp, md, ch, fk, a1, a2, a3, a4, a5, a6, a7, a8, a9, a10) 3 := by
  unfold wpX_step
  exact br_t (by decide) (br_t (by decide) ⟨1, br_f (by decide) (br_f (by decide) hp)⟩)
theorem pj_step72 {post : Int32 → St2 → Prop} {J : Int32 → Int32 → Int32 → Int32 → Int32 → Int32 → Int32 → Int32 → Int32 → Int32 → Int32 → Int32 → Int32 → Int32 → (Nat → Int32) → (Nat → Int32) → (Nat → Int32) → (Nat → Int32) → (Nat → Int32) → (Nat → Int32) → (Nat → Int32) → (Nat → Int32) → (Nat → Int32) → (Nat → Int32) → Prop} {l x y x' y' : Int32} (h1 : a1 0 = 10) (h2 : a2 0 = 0) (ex : x + 1 = x') (ey : y + 1 = y') (hJ : J x' y' mh pl sz qh qc jd 1 0 tp md ch fk a1 a2 a3 a4 a5 a6 a7 a8 a9 a10) : wX_step_72 post J l x y mh pl sz qh qc jd 1 0 tp md ch fk a1 a2 a3 a4 a5 a6 a7 a8 a9 a10 := by
  unfold wX_step_72 wpX_carry
  exact ⟨pk_in 0 16 (by decide), nm_r h1 ⟨pk_in 0 16 (by decide), nm_e (pj_next10 h1 h2 (br_f (by decide) (br_f (by decide) (br_t rfl (nm_r ex (nm_r ey hJ))))))⟩⟩
theorem pj_step_go {post : Int32 → St2 → Prop} {n : Nat} {l x y x' y' : Int32} (h1 : a1 0 = 10) (h2 : a2 0 = 0) (hl : ¬ l ≤ y) (ex : x + 1 = x') (ey : y + 1 = y') (h : wX_step_26 post l n x' y' mh pl sz qh qc jd 1 0 tp md ch fk a1 a2 a3 a4 a5 a6 a7 a8 a9 a10) : wX_step_26 post l (n + 1) x y mh pl sz qh qc jd 1 0 tp md ch fk a1 a2 a3 a4 a5 a6 a7 a8 a9 a10 := by
  have e : ¬ a1 0 = 1 := by
    rw [h1]
    decide
  exact br_f hl (br_t rfl ⟨pk_in 0 16 (by decide), br_f e (pj_step72 h1 h2 ex ey h)⟩)
theorem pj_step_run {post : Int32 → St2 → Prop} (h1 : a1 0 = 10) (h2 : a2 0 = 0) (hp : post 3 (mh, pl, sz, qh, qc, jd, 1, 0, tp, md, ch, fk, a1, a2, a3, a4, a5, a6, a7, a8, a9, a10)) : wpX_step post (mh, pl, sz, qh, qc, jd, 1, 0, tp, md, ch, fk, a1, a2, a3, a4, a5, a6, a7, a8, a9, a10) 3 := by
  unfold wpX_step
  refine br_t (by decide) (br_t (by decide) ⟨4, ?_⟩)
  refine pj_step_go (x' := 1) (y' := 1) h1 h2 (by decide) (by decide) (by decide) ?_
  refine pj_step_go (x' := 2) (y' := 2) h1 h2 (by decide) (by decide) (by decide) ?_
  refine pj_step_go (x' := 3) (y' := 3) h1 h2 (by decide) (by decide) (by decide) ?_
  exact br_t (by decide) hp
end
end
section
/-- a pair (op, x) that the class takes -/
def pj_ok (op x : Int32) : Prop := (pj_nd op ∨ pj_fr op) ∧ ((op = 8 ∨ op = 9) → x = 0 ∨ x = 1)
theorem pj_small {op : Int32} (h0 : ¬ op < 0) (h13 : op ≤ 13) : pj_nd op ∨ pj_fr op := by
  obtain ⟨j, hj, rfl⟩ := nI_of2 (n := 13) (M := 13) (by decide) h0 h13
  have c : j = 0 ∨ j = 1 ∨ j = 2 ∨ j = 3 ∨ j = 4 ∨ j = 5 ∨ j = 6 ∨ j = 7 ∨ j = 8 ∨ j = 9 ∨ j = 10 ∨ j = 11 ∨ j = 12 ∨ j = 13 := by omega
  unfold pj_nd pj_fr
  rcases c with rfl | rfl | rfl | rfl | rfl | rfl | rfl | rfl | rfl | rfl | rfl | rfl | rfl | rfl
  all_goals decide
theorem pj_k_lo {op : Int32} (h : pj_nd op ∨ pj_fr op) : ¬ op < 0 ∧ op ≤ 13 ∧ ¬ 13 < op ∧ op.toInt8.toInt32 = op := by
  rcases h with (rfl | rfl | rfl | rfl | rfl | rfl | rfl | rfl | rfl) | (rfl | rfl | rfl | rfl | rfl)
  all_goals decide
theorem pj_due {op x : Int32} (h : pj_nd op ∨ pj_fr op) : ∃ d, pj_R op x d := by
  rcases h with h | h
  · exact ⟨1, Or.inl ⟨h, rfl⟩⟩
  · by_cases e : op = 10 ∧ x = 0
    · exact ⟨0, Or.inr (Or.inl ⟨e.1, e.2, rfl⟩)⟩
    · exact ⟨8, Or.inr (Or.inr ⟨h, e, rfl⟩)⟩
/-- a pair that the class refuses: the answer of faultOf -/
def pj_bad (op x r : Int32) : Prop := (op < 0 ∧ r = (-2)) ∨ (¬ op < 0 ∧ ¬ op ≤ 13 ∧ r = (-2)) ∨ (¬ op < 0 ∧ op ≤ 13 ∧ (op = 8 ∨ op = 9) ∧ ¬ x = 0 ∧ ¬ x = 1 ∧ r = (-3))
theorem pj_cases (op x : Int32) : pj_ok op x ∨ ∃ r, pj_bad op x r := by
  by_cases h0 : op < 0
  · exact Or.inr ⟨_, Or.inl ⟨h0, rfl⟩⟩
  · by_cases h13 : op ≤ 13
    · by_cases e : op = 8 ∨ op = 9
      · by_cases x0 : x = 0
        · exact Or.inl ⟨pj_small h0 h13, fun _ => Or.inl x0⟩
        · by_cases x1 : x = 1
          · exact Or.inl ⟨pj_small h0 h13, fun _ => Or.inr x1⟩
          · exact Or.inr ⟨_, Or.inr (Or.inr ⟨h0, h13, e, x0, x1, rfl⟩)⟩
      · exact Or.inl ⟨pj_small h0 h13, fun z => absurd z e⟩
    · exact Or.inr ⟨_, Or.inr (Or.inl ⟨h0, h13, rfl⟩)⟩
theorem pj_x01 {x : Int32} (h0 : ¬ x < 0) (h1 : x ≤ 1) : x = 0 ∨ x = 1 := by
  obtain ⟨j, hj, rfl⟩ := nI_of2 (n := 1) (M := 1) (by decide) h0 h1
  have c : j = 0 ∨ j = 1 := by omega
  rcases c with rfl | rfl
  all_goals decide
theorem pj_faultOf_ok {post : Int32 → Prop} {op x : Int32} (h : pj_ok op x) (hp : post 0) : wpX_faultOf post () op x := by
  have L := pj_k_lo h.1
  have T : (op = 8 ∨ op = 9) → wX_faultOf_25 post x := by
    intro e
    unfold wX_faultOf_25 wX_faultOf_30
    rcases h.2 e with rfl | rfl
    all_goals exact br_f (by decide) (br_f (by decide) (br_t (by decide) hp))
  unfold wpX_faultOf
  exact br_f L.1 (br_t L.2.1 (br_c (fun e => T (Or.inl e)) (fun _ => br_c (fun e => T (Or.inr e)) (fun _ => br_t rfl hp))))
theorem pj_faultOf_bad {post : Int32 → Prop} {op x r : Int32} (h : pj_bad op x r) (hp : post r) : wpX_faultOf post () op x := by
  unfold wpX_faultOf
  rcases h with ⟨h0, rfl⟩ | ⟨h0, h13, rfl⟩ | ⟨h0, h13, e, x0, x1, rfl⟩
  · exact br_t h0 hp
  · exact br_f h0 (br_f h13 hp)
  · have T : wX_faultOf_25 post x := by
      unfold wX_faultOf_25 wX_faultOf_30
      exact br_f (by decide) (br_c (fun _ => hp) (fun z => br_f (fun z1 => (pj_x01 z z1).elim x0 x1) hp))
    exact br_f h0 (br_t h13 (br_c (fun _ => T) (fun n8 => br_t (e.resolve_left n8) T)))
theorem pj_bad_neg {op x r : Int32} (h : pj_bad op x r) : ¬ r = 0 ∧ ¬ 0 ≤ r := by
  rcases h with ⟨_, rfl⟩ | ⟨_, _, rfl⟩ | ⟨_, _, _, _, _, rfl⟩
  all_goals decide
section
variable {mh pl sz qh qc jd st av tp md ch fk : Int32} {a1 a2 a3 a4 a5 a6 a7 a8 a9 a10 : Nat → Int32}
theorem pj_emit_bad {post : Int32 → St2 → Prop} {op x r : Int32} (h : pj_bad op x r) (hp : post r (mh, pl, 0, qh, qc, jd, st, av, tp, md, ch, fk, a1, a2, a3, a4, a5, a6, a7, a8, a9, a10)) : wpX_emit post (mh, pl, 0, qh, qc, jd, st, av, tp, md, ch, fk, a1, a2, a3, a4, a5, a6, a7, a8, a9, a10) op x := by
  unfold wpX_emit
  exact br_t (by decide) (pj_faultOf_bad h (br_f (pj_bad_neg h).1 hp))
theorem pj_emit_ok {post : Int32 → St2 → Prop} {op x : Int32} (h : pj_ok op x) (hp : ∀ b1 b2, b1 0 = op → b2 0 = x → post 0 (mh, pl, 1, qh, qc, 0, 0, 0, 0, 0, ch, fk, b1, b2, a3, a4, a5, a6, a7, a8, a9, a10)) : wpX_emit post (mh, pl, 0, qh, qc, jd, st, av, tp, md, ch, fk, a1, a2, a3, a4, a5, a6, a7, a8, a9, a10) op x := by
  unfold wpX_emit
  refine br_t (by decide) (pj_faultOf_ok h (br_t rfl ⟨pk_in 0 16 (by decide), nm_e ⟨pk_in 0 16 (by decide), nm_e (nm_r (e' := 1) (by decide) ?_)⟩⟩))
  unfold wpX_changed
  refine hp _ _ ?_ ?_
  · show upd a1 0 op.toInt8.toInt32 0 = op
    rw [pk_us]
    exact (pj_k_lo h.1).2.2.2
  · show upd a2 0 x 0 = x
    rw [pk_us]
theorem pj_init103 {post : St2 → Prop} {mc ms kc ks : Nat} {x z : Int32} (hp : ∀ p, post (z, p, sz, qh, qc, jd, st, av, tp, md, ch, fk, a1, a2, a3, a4, a5, a6, a7, a8, a9, a10)) : wX_init_103 post mc ms x z kc ks mh pl sz qh qc jd st av tp md ch fk a1 a2 a3 a4 a5 a6 a7 a8 a9 a10 := by
  unfold wX_init_103
  exact br_c (fun _ => br_c (fun _ => hp _) (fun _ => hp _)) (fun _ => hp _)
end
theorem pj_pos {x : Int32} (h : 1 ≤ x) : 0 < x := by
  by_cases z : x < 0
  · exact absurd (Int32.lt_of_le_of_lt h z) (by decide)
  · obtain ⟨j, hj, rfl⟩ := nI_of z
    have e : 0 < j := by
      rcases Nat.eq_zero_or_pos j with w | w
      · rw [w] at h
        exact absurd h (by decide)
      · exact w
    exact nI_lt (a := 0) e hj
theorem pj_init {post : St2 → Prop} {x y : Int32} (hp : ∀ mh pl, 0 < mh → post (mh, pl, 0, 0, 0, 0, 0, 0, 0, 0, 0, 0, fun _ => 0, fun _ => 0, fun _ => 0, fun _ => 0, fun _ => 0, fun _ => 0, fun _ => 0, fun _ => 0, fun _ => 0, fun _ => 0)) : wpX_init post 10 430 (0, 0, 0, 0, 0, 0, 0, 0, 0, 0, 0, 0) x y := by
  unfold wpX_init
  refine ⟨by decide, by decide, by decide, by decide, by decide, by decide, by decide, by decide, by decide, by decide, by decide, by decide, by decide, by decide, by decide, by decide, by decide, by decide, by decide, by decide, ?_⟩
  refine br_c (fun h1 => br_c (fun _ => pj_init103 (fun p => hp _ _ (pj_pos h1))) (fun _ => pj_init103 (fun p => hp _ _ (by decide)))) (fun _ => pj_init103 (fun p => hp _ _ (by decide)))
theorem pj_252_bad {post : Int32 → St0 → Prop} {mc ms kc ks : Nat} {d : Int32} (hd : ¬ d = 0) (hp : post 1 ()) : wL_lawOf_252 post mc ms 0 d 1 4 1 0 0 0 d kc ks := by
  unfold wL_lawOf_252 wL_lawOf_262 wL_lawOf_300 wL_lawOf_322 wL_lawOf_337
  exact br_f hd (br_t rfl (br_t rfl (br_t rfl (br_t rfl (br_t rfl (br_t rfl (br_t rfl (br_t rfl (br_t rfl (br_t rfl (br_t rfl hp)))))))))))
theorem pj_252_safe {post : Int32 → St0 → Prop} {mc ms kc ks : Nat} (hp : post 1 ()) : wL_lawOf_252 post mc ms 0 0 1 4 0 1 1 3 0 kc ks := by
  unfold wL_lawOf_252 wL_lawOf_262 wL_lawOf_300 wL_lawOf_322 wL_lawOf_337
  exact br_t rfl (br_t rfl (br_t rfl (br_t rfl (br_t rfl (br_f (by decide) (br_t rfl (br_t rfl (br_f (by decide) (br_t rfl (br_f (by decide) (br_t rfl hp)))))))))))
theorem pj_113 {post : Int32 → St0 → Prop} {mc ms kc ks : Nat} {op x d x6 x7 x8 x9 x10 x11 x12 x13 : Int32} (hr : pj_R op x d) (h : wL_lawOf_252 post mc ms x6 x7 x8 x9 x10 x11 x12 x13 d kc ks) : wL_lawOf_113 post mc ms op x x6 x7 x8 x9 x10 x11 x12 x13 0 kc ks := by
  unfold wL_lawOf_113
  refine br_t rfl ?_
  rcases hr with ⟨hn, rfl⟩ | ⟨rfl, rfl, rfl⟩ | ⟨hf, hne, rfl⟩
  · have T : wL_lawOf_217 post mc ms op x x6 x7 x8 x9 x10 x11 x12 x13 kc ks := br_f (by decide) h
    rcases hn with rfl | rfl | rfl | rfl | rfl | rfl | rfl | rfl | rfl
    all_goals repeat (first | exact T | refine br_t rfl ?_ | refine br_f (by decide) ?_)
  · refine br_f (by decide) (br_f (by decide) (br_f (by decide) (br_f (by decide) (br_f (by decide) (br_f (by decide) (br_f (by decide) (br_f (by decide) (br_f (by decide) ?_))))))))
    exact br_t rfl (br_t rfl (br_t rfl h))
  · have T : wL_lawOf_222 post mc ms op x x6 x7 x8 x9 x10 x11 x12 x13 0 kc ks := br_t rfl (br_c (fun e => br_f (fun z => hne ⟨e, z⟩) h) (fun _ => h))
    rcases hf with rfl | rfl | rfl | rfl | rfl
    all_goals exact br_f (by decide) (br_f (by decide) (br_f (by decide) (br_f (by decide) (br_f (by decide) (br_f (by decide) (br_f (by decide) (br_f (by decide) (br_f (by decide) T))))))))
theorem pj_99 {post : Int32 → St0 → Prop} {mc ms kc ks : Nat} {op x x6 x7 x8 x9 x10 x11 x12 x13 : Int32} (hx : x = 0 ∨ x = 1) (h : wL_lawOf_113 post mc ms op x x6 x7 x8 x9 x10 x11 x12 x13 0 kc ks) : wL_lawOf_99 post mc ms op x x6 x7 x8 x9 x10 x11 x12 x13 kc ks := by
  unfold wL_lawOf_99
  exact br_c (fun _ => h) (fun n0 => br_t (hx.resolve_left n0) h)
theorem pj_108 {post : Int32 → St0 → Prop} {mc ms kc ks : Nat} {op x r : Int32} (hr : ¬ 0 ≤ r) (hp : post 1 ()) : wL_lawOf_108 post mc ms op x r 0 0 0 2 0 0 0 kc ks := by
  unfold wL_lawOf_108 wL_lawOf_113
  exact br_f (by decide) (br_f hr (br_t rfl (br_t rfl (br_t rfl (br_t rfl (br_t rfl (br_t rfl (br_t rfl hp))))))))
theorem pj_gt {x : Int32} (h : ¬ x ≤ 13) : 13 < x := Int32.not_le.mp h
end
section
section
variable {mh pl sz qh qc jd st av tp md ch fk : Int32} {a1 a2 a3 a4 a5 a6 a7 a8 a9 a10 : Nat → Int32}
theorem pj_faults0 {post : Int32 → St2 → Prop} (hp : post 0 (mh, pl, 0, qh, qc, jd, st, av, tp, md, ch, fk, a1, a2, a3, a4, a5, a6, a7, a8, a9, a10)) : wpX_faults post (mh, pl, 0, qh, qc, jd, st, av, tp, md, ch, fk, a1, a2, a3, a4, a5, a6, a7, a8, a9, a10) 0 := by
  unfold wpX_faults
  exact pj_inside0 (br_t rfl hp)
theorem pj_heights0 {post : Int32 → St2 → Prop} (hp : post 0 (mh, pl, 0, qh, qc, jd, st, av, tp, md, ch, fk, a1, a2, a3, a4, a5, a6, a7, a8, a9, a10)) : wpX_heights post (mh, pl, 0, qh, qc, jd, st, av, tp, md, ch, fk, a1, a2, a3, a4, a5, a6, a7, a8, a9, a10) 0 := by
  unfold wpX_heights
  exact pj_inside0 (br_t rfl hp)
theorem pj_kinds0 {post : Int32 → St2 → Prop} {h k : Int32} (hp : post 0 (mh, pl, 0, qh, qc, jd, st, av, tp, md, ch, fk, a1, a2, a3, a4, a5, a6, a7, a8, a9, a10)) : wpX_kinds post (mh, pl, 0, qh, qc, jd, st, av, tp, md, ch, fk, a1, a2, a3, a4, a5, a6, a7, a8, a9, a10) 0 h k := by
  unfold wpX_kinds
  exact pj_inside0 (br_t rfl hp)
theorem pj_verdict0 {post : Int32 → St2 → Prop} (hp : post 2 (mh, pl, 0, qh, qc, jd, st, av, tp, md, ch, fk, a1, a2, a3, a4, a5, a6, a7, a8, a9, a10)) : wpX_verdict post (mh, pl, 0, qh, qc, jd, st, av, tp, md, ch, fk, a1, a2, a3, a4, a5, a6, a7, a8, a9, a10) := by
  unfold wpX_verdict
  exact br_t rfl hp
theorem pj_start0 {post : Int32 → St2 → Prop} {c : Int32} (hp : post 0 (mh, pl, 0, qh, qc, jd, st, av, tp, md, ch, fk, a1, a2, a3, a4, a5, a6, a7, a8, a9, a10)) : wpX_start post (mh, pl, 0, qh, qc, jd, st, av, tp, md, ch, fk, a1, a2, a3, a4, a5, a6, a7, a8, a9, a10) c := by
  unfold wpX_start
  exact pj_verdict0 (br_f (by decide) hp)
end
theorem pj_lawOf {post : Int32 → St0 → Prop} {a b op x c : Int32} (hp : post 1 ()) : wpL_lawOf post 11 452 () a b op x c := by
  unfold wpL_lawOf
  refine ⟨by decide, by decide, 10, 430, by decide, by decide, pj_init (fun mh pl hm => ?_)⟩
  rcases pj_cases op x with hok | ⟨r, hb⟩
  · refine pj_emit_ok hok (fun b1 b2 e1 e2 => ?_)
    obtain ⟨d, hd⟩ := pj_due (x := x) hok.1
    have hd' : pj_R op (b2 0) d := by
      rw [e2]
      exact hd
    refine pj_faults hm e1 hd' (fun b3 b4 b5 b6 b7 hJ => ?_)
    refine pj_heights hJ (pj_kinds hJ (pj_verdict hJ (fun d0 => ?_) (fun d1 => ?_)))
    · refine pj_start hJ (fun _ b9 => ?_) (fun n0 => absurd d0 n0)
      have h10 : op = 10 ∧ x = 0 := by
        rcases hd with ⟨_, rfl⟩ | ⟨u, v, _⟩ | ⟨_, _, rfl⟩
        · exact absurd d0 (by decide)
        · exact ⟨u, v⟩
        · exact absurd d0 (by decide)
      obtain ⟨rfl, rfl⟩ := h10
      subst d0
      refine pj_step_run e1 e2 ?_
      exact br_f (by decide) (br_f (by decide) (br_f (by decide) (br_f (by decide) (pj_113 hd (pj_252_safe hp)))))
    · refine pj_start hJ (fun d0 => absurd d0 d1) (fun _ => ?_)
      refine pj_step_idle ?_
      have F := pj_113 (kc := 1 + 10) (ks := 22 + 430) (mc := 11) (ms := 452) hd (pj_252_bad d1 hp)
      have L := pj_k_lo hok.1
      exact br_f L.1 (br_f L.2.2.1 (br_c (fun e => pj_99 (hok.2 (Or.inl e)) F) (fun _ => br_c (fun e => pj_99 (hok.2 (Or.inr e)) F) (fun _ => F))))
  · refine pj_emit_bad hb ?_
    refine pj_faults0 (pj_heights0 (pj_kinds0 (pj_verdict0 (pj_start0 ?_))))
    refine pj_step_idle ?_
    have B := (pj_bad_neg hb).2
    rcases hb with ⟨h0, _⟩ | ⟨h0, h13, _⟩ | ⟨h0, h13, e, x0, x1, _⟩
    · exact br_t h0 (pj_108 B hp)
    · exact br_f h0 (br_t (pj_gt h13) (pj_108 B hp))
    · have T : ∀ mc ms kc ks, wL_lawOf_99 post mc ms op x r 0 0 0 2 0 0 0 kc ks := fun mc ms kc ks => br_f x0 (br_f x1 (pj_108 B hp))
      have n13 : ¬ 13 < op := by
        rcases e with rfl | rfl <;> decide
      exact br_f h0 (br_f n13 (br_c (fun _ => T _ _ _ _) (fun n8 => br_t (e.resolve_left n8) (T _ _ _ _))))
theorem pj_cell {post : Int32 → Prop} {L : Nat} {xs : Nat → Int32} {k : Nat} (hL : L ≤ 5) (hk : k < 5) (hp : ∀ v, post v) : wpL_cellAt post L xs () (nI k) := by
  unfold wpL_cellAt
  exact pk_le L k (fun _ => hp _) (fun z => ⟨pk_in k L z, hp _⟩)
theorem i_vc (xs : Nat → Int32) (L : Nat) (hL : L ≤ 5) : wpL_law (fun r => r = 1) L xs := by
  unfold wpL_law
  refine pj_cell (k := 0) hL (by decide) (fun v0 => pj_cell (k := 1) hL (by decide) (fun v1 => pj_cell (k := 2) hL (by decide) (fun v2 => pj_cell (k := 3) hL (by decide) (fun v3 => pj_cell (k := 4) hL (by decide) (fun v4 => ?_)))))
  exact ⟨11, 452, by decide, by decide, pj_lawOf rfl⟩
end
