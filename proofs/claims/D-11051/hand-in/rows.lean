section
/-- the press of one value, as a plain function -/
def ml_mix (x k : Int32) : Int32 :=
  let y := ((x ^^^ ((x.toUInt32 >>> ((15 : Int32).toUInt32 &&& Int32.toUInt32 31)).toInt32)) * 739982445) + k
  let z := ((y ^^^ ((y.toUInt32 >>> ((12 : Int32).toUInt32 &&& Int32.toUInt32 31)).toInt32)) * 695872825) + k
  z ^^^ ((z.toUInt32 >>> ((15 : Int32).toUInt32 &&& Int32.toUInt32 31)).toInt32)
def ml_node (a b : Int32) : Int32 := ml_mix (ml_mix a 2 ^^^ b) 3
theorem ml_xmix {post : Int32 → Prop} {u : St0} {p0 p1 : Int32} (h : post (ml_mix p0 p1)) : wpX_mix post u p0 p1 := by
  intro y ey z ez
  rw [ez, ey]
  exact h
theorem ml_lmix {post : Int32 → Prop} {u : St0} {p0 p1 : Int32} (h : post (ml_mix p0 p1)) : wpL_mix post u p0 p1 := by
  intro y ey z ez
  rw [ez, ey]
  exact h
theorem ml_leaf {post : Int32 → Prop} {u : St0} {p0 : Int32} (h : post (ml_mix p0 1)) : wpX_leaf post u p0 := by
  unfold wpX_leaf
  exact ml_xmix h
theorem ml_xnode {post : Int32 → Prop} {u : St0} {p0 p1 : Int32} (h : post (ml_node p0 p1)) : wpX_node post u p0 p1 := by
  unfold wpX_node
  exact ml_xmix (ml_xmix h)
theorem ml_lnode {post : Int32 → Prop} {u : St0} {p0 p1 : Int32} (h : post (ml_node p0 p1)) : wpL_node post u p0 p1 := by
  unfold wpL_node
  exact ml_lmix (ml_lmix h)
theorem ml_f0 {post : Int32 → Prop} {u : St0} (h : post 0) : wpX_first post u 0 := br_t rfl h
theorem ml_f1 {post : Int32 → Prop} {u : St0} (h : post 40) : wpX_first post u 1 := br_f (by decide) (br_t rfl h)
theorem ml_inI {x : Int32} {n : Nat} (h : 0 ≤ x.toInt ∧ x.toInt < n) : vp_in x n := vp_in_iff.mpr h
/-! the two appends, from a fresh log -/
theorem ml_app1 {post : Int32 → St2 → Prop} {a1 a2 a3 : Nat → Int32} {v : Int32}
    (H : post 1 (1, 0, 0, upd a1 0 (ml_mix v 1), a2, a3)) : wpX_append post (0, 0, 0, a1, a2, a3) v :=
  br_t (by decide) (ml_leaf ⟨ml_inI (by decide), nm_r (e' := upd a1 0 (ml_mix v 1)) rfl (nm_r (e' := 1) (by decide) ⟨1, br_f (by decide) (br_f (by decide) H)⟩)⟩)
theorem ml_app2 {post : Int32 → St2 → Prop} {b a2 a3 : Nat → Int32} {x v : Int32} (hb : b 0 = x)
    (H : ∀ a1 : Nat → Int32, a1 0 = x → a1 1 = ml_mix v 1 → a1 40 = ml_node x (ml_mix v 1) → post 2 (2, 0, 0, a1, a2, a3)) :
    wpX_append post (1, 0, 0, b, a2, a3) v := by
  refine br_t (by decide) (ml_leaf ⟨ml_inI (by decide), nm_r (e' := upd b 1 (ml_mix v 1)) rfl (nm_r (e' := 2) (by decide) ⟨2, ?_⟩)⟩)
  refine br_f (by decide) (br_t (by decide) ⟨by decide, nm_r (e' := 1) (by decide) ?_⟩)
  refine ml_f0 ⟨ml_inI (by decide), nm_r (e' := x) ?_ ?_⟩
  · show upd b 1 (ml_mix v 1) 0 = x
    rw [pk_un (by decide), hb]
  refine ml_f0 ⟨ml_inI (by decide), nm_r (e' := ml_mix v 1) ?_ ?_⟩
  · show upd b 1 (ml_mix v 1) 1 = ml_mix v 1
    rw [pk_us]
  refine ml_f1 (ml_xnode ⟨ml_inI (by decide), nm_r (e' := upd (upd b 1 (ml_mix v 1)) 40 (ml_node x (ml_mix v 1))) rfl (nm_r (e' := 1) (by decide) ?_)⟩)
  refine br_f (by decide) (br_f (by decide) (H _ ?_ ?_ ?_))
  · rw [pk_un (by decide), pk_un (by decide), hb]
  · rw [pk_un (by decide), pk_us]
  · rw [pk_us]
/-! the root of a range: skip a level, take a level, end -/
theorem ml_rSkip {post : Int32 → Prop} {x1 x2 f0 f1 f2 : Int32} {a1 a2 a3 : Nat → Int32} {n : Nat} {x3 x4 x5 x6 x6' : Int32} (h6 : ¬ 6 ≤ x6)
    (hw : (x2 - x1) &&& ((1 : Int32) <<< (x6 &&& 31)) = 0) (he : x6 + 1 = x6')
    (h : wX_rangeRoot_11 post x1 x2 f0 f1 f2 a1 a2 a3 n x3 x4 x5 x6') : wX_rangeRoot_11 post x1 x2 f0 f1 f2 a1 a2 a3 (n + 1) x3 x4 x5 x6 :=
  br_f h6 (nm_e (br_t hw (nm_r he h)))
theorem ml_rTake {post : Int32 → Prop} {x1 x2 f0 f1 f2 : Int32} {a1 a2 a3 : Nat → Int32} {n : Nat} {x3 x4 x6 x4' x6' F : Int32} (k : Nat) (h6 : ¬ 6 ≤ x6)
    (hF : ∀ P : Int32 → Prop, P F → wpX_first P () x6)
    (hw : ¬ (x2 - x1) &&& ((1 : Int32) <<< (x6 &&& 31)) = 0)
    (hi : vp_in (F + ((x4 - (1 : Int32) <<< (x6 &&& 31)) >>> (x6 &&& 31))) 80)
    (hk : (F + ((x4 - (1 : Int32) <<< (x6 &&& 31)) >>> (x6 &&& 31))).toNatClampNeg = k)
    (he4 : x4 - (1 : Int32) <<< (x6 &&& 31) = x4') (he : x6 + 1 = x6')
    (h : wX_rangeRoot_11 post x1 x2 f0 f1 f2 a1 a2 a3 n (a1 k) x4' 1 x6') : wX_rangeRoot_11 post x1 x2 f0 f1 f2 a1 a2 a3 (n + 1) x3 x4 0 x6 :=
  br_f h6 (nm_e (br_f hw (hF _ ⟨hi, nm_r (e' := a1 k) (by rw [hk]) (br_t rfl (nm_r he4 (nm_r he h)))⟩)))
theorem ml_rEnd {post : Int32 → Prop} {x1 x2 f0 f1 f2 : Int32} {a1 a2 a3 : Nat → Int32} {n : Nat} {x3 x4 x5 : Int32} (h : post x3) :
    wX_rangeRoot_11 post x1 x2 f0 f1 f2 a1 a2 a3 (n + 1) x3 x4 x5 6 := br_t (by decide) h
theorem ml_r01 {post : Int32 → Prop} {f0 f1 f2 : Int32} {a1 a2 a3 : Nat → Int32} (h : post (a1 0)) : wpX_rangeRoot post (f0, f1, f2, a1, a2, a3) 0 1 :=
  ⟨7, ml_rTake (F := 0) (x4' := 0) (x6' := 1) 0 (by decide) (fun _ g => ml_f0 g) (by decide) (ml_inI (by decide)) (by decide) (by decide) (by decide)
    (ml_rSkip (x6' := 2) (by decide) (by decide) (by decide) (ml_rSkip (x6' := 3) (by decide) (by decide) (by decide) (ml_rSkip (x6' := 4) (by decide) (by decide) (by decide) (ml_rSkip (x6' := 5) (by decide) (by decide) (by decide) (ml_rSkip (x6' := 6) (by decide) (by decide) (by decide) (ml_rEnd h))))))⟩
theorem ml_r12 {post : Int32 → Prop} {f0 f1 f2 : Int32} {a1 a2 a3 : Nat → Int32} (h : post (a1 1)) : wpX_rangeRoot post (f0, f1, f2, a1, a2, a3) 1 2 :=
  ⟨7, ml_rTake (F := 0) (x4' := 1) (x6' := 1) 1 (by decide) (fun _ g => ml_f0 g) (by decide) (ml_inI (by decide)) (by decide) (by decide) (by decide)
    (ml_rSkip (x6' := 2) (by decide) (by decide) (by decide) (ml_rSkip (x6' := 3) (by decide) (by decide) (by decide) (ml_rSkip (x6' := 4) (by decide) (by decide) (by decide) (ml_rSkip (x6' := 5) (by decide) (by decide) (by decide) (ml_rSkip (x6' := 6) (by decide) (by decide) (by decide) (ml_rEnd h))))))⟩
theorem ml_r02 {post : Int32 → Prop} {f0 f1 f2 : Int32} {a1 a2 a3 : Nat → Int32} (h : post (a1 40)) : wpX_rangeRoot post (f0, f1, f2, a1, a2, a3) 0 2 :=
  ⟨7, ml_rSkip (x6' := 1) (by decide) (by decide) (by decide) (ml_rTake (F := 40) (x4' := 0) (x6' := 2) 40 (by decide) (fun _ g => ml_f1 g) (by decide) (ml_inI (by decide)) (by decide) (by decide) (by decide)
    (ml_rSkip (x6' := 3) (by decide) (by decide) (by decide) (ml_rSkip (x6' := 4) (by decide) (by decide) (by decide) (ml_rSkip (x6' := 5) (by decide) (by decide) (by decide) (ml_rSkip (x6' := 6) (by decide) (by decide) (by decide) (ml_rEnd h))))))⟩
/-! root, hand, cut, note, turnRound over a log of two entries -/
theorem ml_root1 {post : Int32 → Prop} {f1 f2 : Int32} {a1 a2 a3 : Nat → Int32} (h : post (a1 0)) : wpX_root post (2, f1, f2, a1, a2, a3) 1 :=
  br_f (by decide) (br_t (by decide) (ml_r01 h))
theorem ml_root2 {post : Int32 → Prop} {f1 f2 : Int32} {a1 a2 a3 : Nat → Int32} (h : post (a1 40)) : wpX_root post (2, f1, f2, a1, a2, a3) 2 :=
  br_f (by decide) (br_t (by decide) (ml_r02 h))
theorem ml_rootN {post : Int32 → Prop} {f1 f2 x : Int32} {a1 a2 a3 : Nat → Int32} (hx : x < 1 ∨ ¬ x ≤ 2) (h : post 0) : wpX_root post (2, f1, f2, a1, a2, a3) x :=
  br_c (fun _ => h) (fun z => br_f (hx.resolve_left z) h)
theorem ml_hand0 {post : Int32 → Prop} {f0 f2 : Int32} {a1 a2 a3 : Nat → Int32} (h : post 0) : wpX_hand post (f0, 0, f2, a1, a2, a3) 0 :=
  br_f (by decide) (br_f (by decide) h)
theorem ml_hand1 {post : Int32 → Prop} {f0 f2 : Int32} {a1 a2 a3 : Nat → Int32} (h : post (a2 0)) : wpX_hand post (f0, 1, f2, a1, a2, a3) 0 :=
  br_f (by decide) (br_t (by decide) ⟨ml_inI (by decide), h⟩)
theorem ml_cut {post : Int32 → Prop} {u : St0} {x : Int32} (hx : x ≤ 2 * 1) (h : post 1) : wpX_cut post u x :=
  ⟨1, br_f (by decide) (br_t hx h)⟩
theorem ml_note {post : St2 → Prop} {f0 f1 p0 p1 : Int32} {a1 a2 a3 : Nat → Int32} (r : Int32) (hR : ∀ P : Int32 → Prop, P r → wpX_rangeRoot P (f0, f1, 0, a1, a2, a3) p0 p1)
    (h : post (f0, f1, 1, a1, a2, upd a3 0 r)) : wpX_note post (f0, f1, 0, a1, a2, a3) p0 p1 :=
  hR _ ⟨ml_inI (by decide), nm_r (e' := upd a3 0 r) rfl (nm_r (e' := 1) (by decide) h)⟩
theorem ml_turn0 {post : St2 → Prop} {f0 f1 : Int32} {a1 a2 a3 : Nat → Int32} (h : post (f0, 0, 0, a1, a2, a3)) : wpX_turnRound post (f0, f1, 0, a1, a2, a3) :=
  ⟨1, br_t (by decide) h⟩
theorem ml_turn1 {post : St2 → Prop} {f0 f1 : Int32} {a1 a2 a3 : Nat → Int32} (h : post (f0, 1, 1, a1, upd a2 0 (a3 0), a3)) : wpX_turnRound post (f0, f1, 1, a1, a2, a3) :=
  ⟨2, br_f (by decide) ⟨ml_inI (by decide), ml_inI (by decide), nm_r (e' := upd a2 0 (a3 0)) rfl (nm_r (e' := 1) (by decide) (br_t (by decide) h))⟩⟩
/-! path -/
theorem ml_path0 {post : Int32 → St2 → Prop} {f1 f2 : Int32} {a1 a2 a3 : Nat → Int32} (H : ∀ b2 b3 : Nat → Int32, b2 0 = a1 1 → post 1 (2, 1, 1, a1, b2, b3)) :
    wpX_path post (2, f1, f2, a1, a2, a3) 0 2 := by
  refine br_f (by decide) (br_f (by decide) (br_f (by decide) (br_t (by decide) ⟨2, ?_⟩)))
  refine br_f (by decide) (br_f (by decide) (ml_cut (by decide) (nm_r (e' := 1) (by decide) (br_f (by decide) ?_))))
  refine ml_note (a1 1) (fun _ g => ml_r12 g) (nm_r (e' := 1) (by decide) ?_)
  refine br_f (by decide) (br_t (by decide) ?_)
  exact ml_turn1 (H _ _ (by rw [pk_us, pk_us]))
theorem ml_path1 {post : Int32 → St2 → Prop} {f1 f2 : Int32} {a1 a2 a3 : Nat → Int32} (H : ∀ b2 b3 : Nat → Int32, b2 0 = a1 0 → post 1 (2, 1, 1, a1, b2, b3)) :
    wpX_path post (2, f1, f2, a1, a2, a3) 1 2 := by
  refine br_f (by decide) (br_f (by decide) (br_f (by decide) (br_t (by decide) ⟨2, ?_⟩)))
  refine br_f (by decide) (br_f (by decide) (ml_cut (by decide) (nm_r (e' := 1) (by decide) (br_t (by decide) ?_))))
  refine ml_note (a1 0) (fun _ g => ml_r01 g) (nm_r (e' := 1) (by decide) ?_)
  refine br_f (by decide) (br_t (by decide) ?_)
  exact ml_turn1 (H _ _ (by rw [pk_us, pk_us]))
theorem ml_pathN {post : Int32 → St2 → Prop} {f1 f2 x : Int32} {a1 a2 a3 : Nat → Int32} (hx : x < 0 ∨ ¬ x < 2) (H : post (-1) (2, f1, f2, a1, a2, a3)) :
    wpX_path post (2, f1, f2, a1, a2, a3) x 2 :=
  br_f (by decide) (br_f (by decide) (br_c (fun _ => H) (fun z => br_f (hx.resolve_left z) H)))
/-! rootFrom, with one number in the hand -/
theorem ml_from0 {post : Int32 → Prop} {f0 f2 v : Int32} {a1 a2 a3 : Nat → Int32} (h : post (ml_node (ml_mix v 1) (a2 0))) :
    wpX_rootFrom post (f0, 1, f2, a1, a2, a3) 0 2 v := by
  refine br_f (by decide) (br_f (by decide) (br_f (by decide) (br_t (by decide) (nm_r (e' := 1) (by decide) (ml_leaf ⟨2, ?_⟩)))))
  refine br_f (by decide) (br_f (by decide) (br_t (by decide) (br_f (by decide) ⟨ml_inI (by decide), ml_xnode ?_⟩)))
  refine nm_r (e' := 0) (by decide) (nm_r (e' := 0) (by decide) (nm_r (e' := 1) (by decide) ?_))
  exact br_t (by decide) (br_t rfl h)
theorem ml_from1 {post : Int32 → Prop} {f0 f2 v : Int32} {a1 a2 a3 : Nat → Int32} (h : post (ml_node (a2 0) (ml_mix v 1))) :
    wpX_rootFrom post (f0, 1, f2, a1, a2, a3) 1 2 v := by
  refine br_f (by decide) (br_f (by decide) (br_f (by decide) (br_t (by decide) (nm_r (e' := 1) (by decide) (ml_leaf ⟨2, ?_⟩)))))
  refine br_f (by decide) (br_f (by decide) (br_f (by decide) ⟨ml_inI (by decide), ml_xnode ⟨1, ?_⟩⟩))
  refine br_f (by decide) (br_f (by decide) ?_)
  refine nm_r (e' := 0) (by decide) (nm_r (e' := 0) (by decide) (nm_r (e' := 1) (by decide) ?_))
  exact br_t (by decide) (br_t rfl h)
theorem ml_fromN {post : Int32 → Prop} {f0 f1 f2 x v : Int32} {a1 a2 a3 : Nat → Int32} (hx : x < 0 ∨ ¬ x < 2) (h : post 0) :
    wpX_rootFrom post (f0, f1, f2, a1, a2, a3) x 2 v :=
  br_f (by decide) (br_f (by decide) (br_c (fun _ => h) (fun z => br_f (hx.resolve_left z) h)))
/-! steps from 1 -/
theorem ml_steps1 {post : Int32 → St2 → Prop} {f1 f2 : Int32} {a1 a2 a3 : Nat → Int32} (H : post 0 (2, 0, 0, a1, a2, a3)) :
    wpX_steps post (2, f1, f2, a1, a2, a3) 1 1 := by
  refine br_f (by decide) (br_f (by decide) (br_t (by decide) ⟨1, ?_⟩))
  refine br_f (by decide) (br_t (by decide) (br_t (by decide) ?_))
  exact ml_turn0 H
theorem ml_steps2 {post : Int32 → St2 → Prop} {f1 f2 : Int32} {a1 a2 a3 : Nat → Int32} (H : ∀ b2 b3 : Nat → Int32, b2 0 = a1 1 → post 1 (2, 1, 1, a1, b2, b3)) :
    wpX_steps post (2, f1, f2, a1, a2, a3) 1 2 := by
  refine br_f (by decide) (br_f (by decide) (br_t (by decide) ⟨2, ?_⟩))
  refine br_f (by decide) (br_f (by decide) (ml_cut (by decide) (nm_r (e' := 1) (by decide) (br_f (by decide) ?_))))
  refine ml_note (a1 1) (fun _ g => ml_r12 g) (nm_r (e' := 1) (by decide) ?_)
  refine br_f (by decide) (br_t (by decide) (br_t (by decide) ?_))
  exact ml_turn1 (H _ _ (by rw [pk_us, pk_us]))
theorem ml_stepsN {post : Int32 → St2 → Prop} {f1 f2 x : Int32} {a1 a2 a3 : Nat → Int32} (hx : x < 1 ∨ ¬ x ≤ 2) (H : post (-1) (2, f1, f2, a1, a2, a3)) :
    wpX_steps post (2, f1, f2, a1, a2, a3) 1 x :=
  br_f (by decide) (br_c (fun _ => H) (fun z => br_f (hx.resolve_left z) H))
end
section
theorem ml_size (x : Int32) : x = 1 ∨ x = 2 ∨ (¬ x = 1 ∧ ¬ x = 2 ∧ (x < 1 ∨ ¬ x ≤ 2)) := by
  by_cases h1 : x = 1
  · exact .inl h1
  by_cases h2 : x = 2
  · exact .inr (.inl h2)
  refine .inr (.inr ⟨h1, h2, ?_⟩)
  have e1 : ¬ x.toInt = 1 := fun z => h1 (Int32.toInt_inj.mp z)
  have e2 : ¬ x.toInt = 2 := fun z => h2 (Int32.toInt_inj.mp z)
  rw [Int32.lt_iff_toInt_lt, Int32.le_iff_toInt_le]
  have f1 : (1 : Int32).toInt = 1 := by decide
  have f2 : (2 : Int32).toInt = 2 := by decide
  rw [f1, f2]
  omega
theorem ml_entry (x : Int32) : x = 0 ∨ x = 1 ∨ (¬ x = 0 ∧ ¬ x = 1 ∧ (x < 0 ∨ ¬ x < 2)) := by
  by_cases h1 : x = 0
  · exact .inl h1
  by_cases h2 : x = 1
  · exact .inr (.inl h2)
  refine .inr (.inr ⟨h1, h2, ?_⟩)
  have e1 : ¬ x.toInt = 0 := fun z => h1 (Int32.toInt_inj.mp z)
  have e2 : ¬ x.toInt = 1 := fun z => h2 (Int32.toInt_inj.mp z)
  rw [Int32.lt_iff_toInt_lt, Int32.lt_iff_toInt_lt]
  have f1 : (0 : Int32).toInt = 0 := by decide
  have f2 : (2 : Int32).toInt = 2 := by decide
  rw [f1, f2]
  omega
/-- what the hand holds at place 0 behind path -/
def ml_val (e la lb : Int32) : Int32 := if e = 0 then lb else if e = 1 then la else 0
theorem ml_245 {post : Int32 → St0 → Prop} {mc ms kc ks : Nat} {z0 z1 : Int32} (h : post 1 ()) (e : z1 = z0) : wL_lawOf_245 post mc ms z0 z1 kc ks := br_t e h
/-- the law's end: steps, then the hand -/
theorem ml_166 {post : Int32 → St0 → Prop} {mc ms kc ks : Nat} {x2 x3 x5 x6 z0 z1 c f : Int32} {a1 a2 a3 : Nat → Int32} (h : post 1 ()) (hz : z1 = z0) (h6 : a1 1 = x6)
    (hH : ∀ P : Int32 → Prop, P (ml_val x3 x5 x6) → wpX_hand P (2, c, f, a1, a2, a3) 0) :
    wL_lawOf_166 post mc ms x2 x3 x5 x6 z0 z1 kc ks 2 c f a1 a2 a3 := by
  refine br_t hz ?_
  rcases ml_size x2 with e | e | ⟨n1, n2, hx⟩
  · subst e
    refine ml_steps1 (br_t rfl (br_t rfl (ml_hand0 ?_)))
    exact br_f (by decide) (br_t rfl (ml_245 h rfl))
  · subst e
    refine ml_steps2 (fun b2 b3 hb => br_f (by decide) (br_t rfl (br_t rfl (ml_hand1 ?_))))
    exact br_t rfl (ml_245 h (hb.trans h6))
  · refine ml_stepsN hx (br_f n1 (br_f n2 (br_t rfl (hH _ ?_))))
    refine br_f n2 (br_f n1 (br_c (fun e => ml_245 h ?_) (fun e => br_c (fun e' => ml_245 h ?_) (fun e' => ml_245 h ?_))))
    · unfold ml_val
      rw [if_pos e]
    · unfold ml_val
      rw [if_neg e, if_pos e']
    · unfold ml_val
      rw [if_neg e, if_neg e']
/-- behind root: path, the hand, rootFrom, the end -/
theorem ml_73 {post : Int32 → St0 → Prop} {mc ms kc ks : Nat} {x0 x1 x2 x3 z0 z1 : Int32} {a1 a2 a3 : Nat → Int32} (h : post 1 ()) (hz : z1 = z0)
    (h0 : a1 0 = ml_mix x0 1) (h1 : a1 1 = ml_mix x1 1) :
    wL_lawOf_73 post mc ms x0 x1 x2 x3 (ml_mix x0 1) (ml_mix x1 1) (ml_node (ml_mix x0 1) (ml_mix x1 1)) z0 z1 kc ks 2 0 0 a1 a2 a3 := by
  refine br_t hz ?_
  rcases ml_entry x3 with e | e | ⟨n0, n1, hx⟩
  · subst e
    refine ml_path0 (fun b2 b3 hb => br_t rfl ?_)
    refine br_t rfl (ml_hand1 (br_t rfl (br_t (hb.trans h1) (br_t rfl ?_))))
    refine ml_from0 (br_t rfl (ml_166 h ?_ h1 (fun P g => ml_hand1 ?_)))
    · rw [hb, h1]
    · rw [hb, h1]
      exact g
  · subst e
    refine ml_path1 (fun b2 b3 hb => br_f (by decide) (br_t rfl ?_))
    refine br_t rfl (ml_hand1 (br_f (by decide) (br_t rfl (br_t (hb.trans h0) (br_f (by decide) ?_)))))
    refine ml_from1 (br_f (by decide) (br_t rfl (ml_166 h ?_ h1 (fun P g => ml_hand1 ?_))))
    · rw [hb, h0]
    · rw [hb, h0]
      exact g
  · refine ml_pathN hx (br_f n0 (br_f n1 (br_t rfl (ml_hand0 (br_f n0 (br_f n1 (br_t rfl (br_f n0 ?_))))))))
    refine ml_fromN hx (br_f n0 (br_f n1 (ml_166 h rfl h1 (fun P g => ml_hand0 ?_))))
    unfold ml_val at g
    rw [if_neg n0, if_neg n1] at g
    exact g
theorem ml_lawOf {post : Int32 → St0 → Prop} {u : St0} {p0 p1 p2 p3 : Int32} (h : post 1 ()) : wpL_lawOf post 68 1072 u p0 p1 p2 p3 := by
  refine ⟨by decide, by decide, 3, 112, by decide, by decide, ?_⟩
  refine ⟨by decide, by decide, by decide, by decide, by decide, by decide, ?_⟩
  refine ml_app1 (ml_app2 (x := ml_mix p0 1) pk_us (fun a1 h0 h1 h40 => ?_))
  refine ml_lmix (ml_lmix (ml_lnode ?_))
  rcases ml_size p2 with e | e | ⟨n1, n2, hx⟩
  · subst e
    exact ml_root1 (br_t rfl (ml_73 h h0 h0 h1))
  · subst e
    exact ml_root2 (br_f (by decide) (br_t rfl (ml_73 h h40 h0 h1)))
  · exact ml_rootN hx (br_f n1 (br_f n2 (ml_73 h rfl h0 h1)))
theorem ml_cell {post : Int32 → Prop} {L : Nat} {xs : Nat → Int32} {u : St0} {k : Nat} (hL : L ≤ 4) (hk : k < 4) (h : ∀ r, post r) : wpL_cellAt post L xs u (nI k) :=
  pk_le L k (fun _ => h _) (fun z => ⟨vp_in_nI z (by omega), h _⟩)
theorem i_vc (xs : Nat → Int32) (L : Nat) (hL : L ≤ 4) : wpL_law (fun r => r = 1) L xs := by
  refine ml_cell (k := 0) hL (by decide) (fun r1 => ?_)
  refine ml_cell (k := 1) hL (by decide) (fun r2 => ?_)
  refine ml_cell (k := 2) hL (by decide) (fun r3 => ?_)
  refine ml_cell (k := 3) hL (by decide) (fun r4 => ?_)
  exact ⟨68, 1072, by decide, by decide, ml_lawOf rfl⟩
end
