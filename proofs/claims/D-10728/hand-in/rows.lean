section
/-! comparisons of an int with a literal, by what the int counts -/
theorem lw_lt {x c : Int32} {A B : Prop} (k : Int) (f : x.toInt < k → A) (g : k ≤ x.toInt → B) (hc : c.toInt = k := by decide) : (x < c → A) ∧ (¬ x < c → B) := by
  subst hc
  refine ⟨fun h => f (Int32.lt_iff_toInt_lt.mp h), fun h => g ?_⟩
  rw [Int32.lt_iff_toInt_lt] at h
  omega
theorem lw_le {x c : Int32} {A B : Prop} (k : Int) (f : x.toInt ≤ k → A) (g : k < x.toInt → B) (hc : c.toInt = k := by decide) : (x ≤ c → A) ∧ (¬ x ≤ c → B) := by
  subst hc
  refine ⟨fun h => f (Int32.le_iff_toInt_le.mp h), fun h => g ?_⟩
  rw [Int32.le_iff_toInt_le] at h
  omega
theorem lw_gt {x c : Int32} {A B : Prop} (k : Int) (f : k < x.toInt → A) (g : x.toInt ≤ k → B) (hc : c.toInt = k := by decide) : (c < x → A) ∧ (¬ c < x → B) := by
  subst hc
  refine ⟨fun h => f (Int32.lt_iff_toInt_lt.mp h), fun h => g ?_⟩
  rw [Int32.lt_iff_toInt_lt] at h
  omega
theorem lw_ge {x c : Int32} {A B : Prop} (k : Int) (f : k ≤ x.toInt → A) (g : x.toInt < k → B) (hc : c.toInt = k := by decide) : (c ≤ x → A) ∧ (¬ c ≤ x → B) := by
  subst hc
  refine ⟨fun h => f (Int32.le_iff_toInt_le.mp h), fun h => g ?_⟩
  rw [Int32.le_iff_toInt_le] at h
  omega
theorem lw_0 {x : Int32} (h1 : 0 ≤ x.toInt) (h2 : x.toInt < 1) : x = 0 := by
  apply Int32.toInt_inj.mp
  show x.toInt = 0
  omega
theorem lw_c1 : (1 : Int32).toNatClampNeg = 1 := pk_cl 1
/-! the pure picture: the object while it holds at most one fact and no condition -/
/-- a place that a condition may name -/
def lw_gd (x : Int32) : Prop := (0 ≤ x.toInt ∧ x.toInt ≤ 2) ∨ (8 ≤ x.toInt ∧ x.toInt ≤ 13)
/-- an edge between two nodes -/
def lw_nd (x : Int32) : Prop := (x &&& 7).toInt < 6 ∧ ((x >>> ((3 : Int32) &&& 31)) &&& 7).toInt < 6
/-- a number of quarters -/
def lw_nm (x : Int32) : Prop := 1 ≤ x.toInt ∧ x.toInt ≤ 4
/-- the worlds of F facts all answer yes -/
def lw_pr (F : Int32) (a : Nat → Int32) : Prop := ¬ a 0 = 0 ∧ (F = 1 → ¬ a 1 = 0)
/-- as many facts as the law believes -/
def lw_fx (F x : Int32) : Prop := (F = 0 ∧ x = 0) ∨ (F = 1 ∧ x = 1)
/-! the methods -/
theorem lw_bad {post : Int32 → Prop} {x : Int32} (h0 : lw_gd x → post 0) (h1 : ¬ lw_gd x → post 1) : wpX_badPlace post () x :=
  lw_lt 0 (fun a => h1 (by unfold lw_gd; omega)) (fun a =>
    lw_le 2 (fun b => lw_lt 14 (fun c => h0 (by unfold lw_gd; omega)) (fun c => h1 (by unfold lw_gd; omega)))
      (fun b => lw_lt 8 (fun c => h1 (by unfold lw_gd; omega)) (fun c => lw_lt 14 (fun d => h0 (by unfold lw_gd; omega)) (fun d => h1 (by unfold lw_gd; omega)))))
theorem lw_end {post : Int32 → Prop} {x : Int32} (h1 : lw_gd x → post 1) (h0 : ¬ lw_gd x → post 0) : wpL_end post () x :=
  lw_lt 0 (fun a => lw_lt 8 (fun b => h0 (by unfold lw_gd; omega)) (fun b => absurd a (by omega))) (fun a =>
    lw_le 2 (fun b => h1 (by unfold lw_gd; omega))
      (fun b => lw_lt 8 (fun c => h0 (by unfold lw_gd; omega)) (fun c => lw_gt 13 (fun d => h0 (by unfold lw_gd; omega)) (fun d => h1 (by unfold lw_gd; omega)))))
theorem lw_cond {post : Int32 → St2 → Prop} {f r p0 p1 p2 : Int32} {a1 a2 a3 a4 a5 a6 a7 a8 a9 a10 a11 a12 a13 : Nat → Int32}
    (h1 : lw_gd p1 → lw_gd p2 → ∀ a5' a6' a7', post 1 (f, 1, 0, a1, a2, a3, a4, a5', a6', a7', a8, a9, a10, a11, a12, a13)) (h0 : ¬ (lw_gd p1 ∧ lw_gd p2) → post (-1) (f, 0, r, a1, a2, a3, a4, a5, a6, a7, a8, a9, a10, a11, a12, a13)) : wpX_condition post (f, 0, r, a1, a2, a3, a4, a5, a6, a7, a8, a9, a10, a11, a12, a13) p0 p1 p2 := by
  unfold wpX_condition
  refine lw_bad (fun g1 => br_t rfl ?_) (fun g1 => br_f (by decide) (h0 (fun g => g1 g.1)))
  refine lw_bad (fun g2 => br_t rfl ?_) (fun g2 => br_f (by decide) (h0 (fun g => g2 g.2)))
  exact br_t (by decide) ⟨pk_in 0 4 (by omega), nm_e ⟨pk_in 0 4 (by omega), nm_e ⟨pk_in 0 4 (by omega), nm_e (nm_r (e' := 1) (by decide) (h1 g1 g2 _ _ _))⟩⟩⟩
theorem lw_nof {post : Int32 → Prop} {F c r x : Int32} {a1 a2 a3 a4 a5 a6 a7 a8 a9 a10 a11 a12 a13 : Nat → Int32} (hF : F = 0 ∨ F = 1) (h1 : ¬ (F = 1 ∧ x = 0) → post 1) (h0 : F = 1 → x = 0 → post 0) : wpX_noFact post (F, c, r, a1, a2, a3, a4, a5, a6, a7, a8, a9, a10, a11, a12, a13) x := by
  unfold wpX_noFact
  refine lw_lt 0 (fun a => h1 (fun g => ?_)) (fun a => ?_)
  · rw [g.2] at a
    exact absurd a (by decide)
  · rcases hF with rfl | rfl
    · exact lw_lt 0 (fun b => absurd a (by omega)) (fun b => h1 (fun g => absurd g.1 (by decide)))
    · refine lw_lt 1 (fun b => h0 rfl (lw_0 a b)) (fun b => h1 (fun g => ?_))
      rw [g.2] at b
      exact absurd b (by decide)
theorem lw_fact {post : Int32 → St2 → Prop} {r p0 p1 : Int32} {a1 a2 a3 a4 a5 a6 a7 a8 a9 a10 a11 a12 a13 : Nat → Int32}
    (h1 : ¬ lw_nd p0 → post (-1) (0, 0, r, a1, a2, a3, a4, a5, a6, a7, a8, a9, a10, a11, a12, a13)) (h2 : lw_nd p0 → ¬ lw_nm p1 → post (-2) (0, 0, r, a1, a2, a3, a4, a5, a6, a7, a8, a9, a10, a11, a12, a13))
    (h3 : lw_nd p0 → lw_nm p1 → ∀ a1' a2' a3', post 0 (1, 0, 0, a1', a2', a3', upd a4 0 p1, a5, a6, a7, a8, a9, a10, a11, a12, a13)) : wpX_fact post (0, 0, r, a1, a2, a3, a4, a5, a6, a7, a8, a9, a10, a11, a12, a13) p0 p1 := by
  unfold wpX_fact
  refine nm_e (nm_e (lw_ge 6 (fun a => h1 (by unfold lw_nd; omega)) (fun a => lw_lt 6 (fun b => ?_) (fun b => h1 (by unfold lw_nd; omega)))))
  refine lw_lt 1 (fun c => h2 ⟨a, b⟩ (by unfold lw_nm; omega)) (fun c => lw_le 4 (fun d => ?_) (fun d => h2 ⟨a, b⟩ (by unfold lw_nm; omega)))
  refine br_t (by decide) ⟨pk_in 0 9 (by omega), nm_e ⟨pk_in 0 9 (by omega), nm_e ⟨pk_in 0 9 (by omega), nm_e ⟨pk_in 0 9 (by omega), nm_r (congrArg (fun k => upd a4 k p1) sb_cl0) (nm_r (e' := 1) (by decide) ?_)⟩⟩⟩⟩
  have e : (1 : Int32) - 1 = 0 := by decide
  rw [e]
  exact h3 ⟨a, b⟩ ⟨c, d⟩ _ _ _
theorem lw_likely {post : Int32 → St2 → Prop} {F c r p0 p1 : Int32} {a1 a2 a3 a4 a5 a6 a7 a8 a9 a10 a11 a12 a13 : Nat → Int32} (hF : F = 0 ∨ F = 1)
    (h1 : ¬ (F = 1 ∧ p0 = 0) → post (-4) (F, c, r, a1, a2, a3, a4, a5, a6, a7, a8, a9, a10, a11, a12, a13)) (h2 : F = 1 → p0 = 0 → ¬ lw_nm p1 → post (-2) (F, c, r, a1, a2, a3, a4, a5, a6, a7, a8, a9, a10, a11, a12, a13))
    (h3 : F = 1 → p0 = 0 → lw_nm p1 → post (a4 0) (F, c, r, a1, a2, a3, upd a4 0 p1, a5, a6, a7, a8, a9, a10, a11, a12, a13)) : wpX_likely post (F, c, r, a1, a2, a3, a4, a5, a6, a7, a8, a9, a10, a11, a12, a13) p0 p1 := by
  unfold wpX_likely
  refine lw_nof hF (fun g => br_f (by decide) (h1 g)) (fun g1 g2 => br_t rfl ?_)
  refine lw_lt 1 (fun c => h2 g1 g2 (by unfold lw_nm; omega)) (fun c => lw_le 4 (fun d => ?_) (fun d => h2 g1 g2 (by unfold lw_nm; omega)))
  have h := h3 g1 g2 ⟨c, d⟩
  subst g2
  exact ⟨pk_in 0 9 (by omega), nm_r (congrArg a4 sb_cl0) ⟨pk_in 0 9 (by omega), nm_r (congrArg (fun k => upd a4 k p1) sb_cl0) h⟩⟩
end
section
/-! preparing: with no condition the empty set is a match, so every world answers yes -/
theorem lw_f24 {post : St2 → Prop} {f r : Int32} {a1 a2 a3 a4 a5 a6 a7 a8 a9 a10 a11 a12 a13 : Nat → Int32} (H : ∀ a10' a11', ¬ a11' 0 = 0 → post (f, 0, r, a1, a2, a3, a4, a5, a6, a7, a8, a9, a10', a11', a12, a13)) : ∃ n, wX_findMatches_24 post f 0 r n 0 a1 a2 a3 a4 a5 a6 a7 a8 a9 a10 a11 a12 a13 :=
  pk_loop (fun n i s => wX_findMatches_24 post f 0 r n (nI i) a1 a2 a3 a4 a5 a6 a7 a8 a9 s a11 a12 a13) (fun _ _ => True) 3 0 a10 (by omega) trivial
    (fun n s _ => pk_le 3 3 (fun _ => br_t rfl (nm_e (H _ _ (by rw [pk_us]; decide)))) (fun z => absurd z (by omega)))
    (fun n i s hi _ hw => pk_le 3 i (fun z => absurd z (by omega)) (fun _ => ⟨pk_in i 3 hi, nm_e (nm_r (nI_1 i) (hw _ trivial))⟩))
theorem lw_find {post : St2 → Prop} {f r : Int32} {a1 a2 a3 a4 a5 a6 a7 a8 a9 a10 a11 a12 a13 : Nat → Int32} (H : ∀ a10' a11', ¬ a11' 0 = 0 → post (f, 0, r, a1, a2, a3, a4, a5, a6, a7, a8, a9, a10', a11', a12, a13)) : wpX_findMatches post (f, 0, r, a1, a2, a3, a4, a5, a6, a7, a8, a9, a10, a11, a12, a13) :=
  pk_loop (fun n i s => wX_findMatches_2 post f 0 r n (nI i) a1 a2 a3 a4 a5 a6 a7 a8 a9 a10 s a12 a13) (fun _ _ => True) 512 0 a11 (by omega) trivial
    (fun n s _ => pk_le 512 512 (fun _ => lw_f24 H) (fun z => absurd z (by omega)))
    (fun n i s hi _ hw => pk_le 512 i (fun z => absurd z (by omega)) (fun _ => ⟨pk_in i 512 hi, nm_e (nm_r (nI_1 i) (hw _ trivial))⟩))
theorem lw_y0 {post : Int32 → Prop} {F c r : Int32} {a1 a2 a3 a4 a5 a6 a7 a8 a9 a10 a11 a12 a13 : Nat → Int32} (hF : F = 0 ∨ F = 1) (h : post 0) : wpX_yesBelow post (F, c, r, a1, a2, a3, a4, a5, a6, a7, a8, a9, a10, a11, a12, a13) 0 := by
  rcases hF with rfl | rfl
  · exact ⟨1, br_t (by decide) h⟩
  · exact ⟨2, br_f (by decide) (br_f (by decide) (nm_r (e' := 1) (by decide) (br_t (by decide) h)))⟩
theorem lw_e1 : ((1 : Int32) &&& (((1 : Int32) <<< ((0 : Int32) &&& 31)) ^^^ (-1))) = 0 := by decide
theorem lw_y1 {post : Int32 → Prop} {c r : Int32} {a1 a2 a3 a4 a5 a6 a7 a8 a9 a10 a11 a12 a13 : Nat → Int32} (h0 : ¬ a12 0 = 0) (h : post 1) : wpX_yesBelow post (1, c, r, a1, a2, a3, a4, a5, a6, a7, a8, a9, a10, a11, a12, a13) 1 :=
  ⟨1, br_f (by decide) (br_t (by decide) ⟨by rw [lw_e1]; exact pk_in 0 512 (by omega), br_f (by rw [lw_e1, sb_cl0]; exact h0) h⟩)⟩
theorem lw_p0 {post : St2 → Prop} {c r : Int32} {a1 a2 a3 a4 a5 a6 a7 a8 a9 a10 a11 a12 a13 : Nat → Int32} (h11 : ¬ a11 0 = 0) (H : ∀ a12', lw_pr 0 a12' → post (0, c, r, a1, a2, a3, a4, a5, a6, a7, a8, a9, a10, a11, a12', a13)) : ∃ n, wX_prepare_19 post 0 c r n 0 a1 a2 a3 a4 a5 a6 a7 a8 a9 a10 a11 a12 a13 :=
  ⟨2, br_f (by decide) (lw_y0 (Or.inl rfl) ⟨pk_in 0 512 (by omega), br_f (by rw [sb_cl0]; exact h11) ⟨pk_in 0 512 (by omega), nm_e (nm_r (e' := 1) (by decide) (br_t (by decide) (H _ ⟨by rw [sb_cl0, pk_us]; decide, fun z => absurd z (by decide)⟩)))⟩⟩)⟩
theorem lw_u01 (f : Nat → Int32) : lw_pr 1 (upd (upd f (0 : Int32).toNatClampNeg 1) (1 : Int32).toNatClampNeg 1) := by
  rw [sb_cl0, lw_c1]
  refine ⟨?_, fun _ => ?_⟩
  · rw [pk_un (by decide), pk_us]
    decide
  · rw [pk_us]
    decide
theorem lw_p1 {post : St2 → Prop} {c r : Int32} {a1 a2 a3 a4 a5 a6 a7 a8 a9 a10 a11 a12 a13 : Nat → Int32} (h11 : ¬ a11 0 = 0) (H : ∀ a12', lw_pr 1 a12' → post (1, c, r, a1, a2, a3, a4, a5, a6, a7, a8, a9, a10, a11, a12', a13)) : ∃ n, wX_prepare_19 post 1 c r n 0 a1 a2 a3 a4 a5 a6 a7 a8 a9 a10 a11 a12 a13 :=
  ⟨3, br_f (by decide) (lw_y0 (Or.inr rfl) ⟨pk_in 0 512 (by omega), br_f (by rw [sb_cl0]; exact h11) ⟨pk_in 0 512 (by omega), nm_e (nm_r (e' := 1) (by decide)
    (br_f (by decide) (lw_y1 (by rw [sb_cl0, pk_us]; decide) ⟨pk_in 1 512 (by omega), br_c
      (fun _ => br_f (by decide) ⟨pk_in 1 512 (by omega), nm_e (nm_r (e' := 2) (by decide) (br_t (by decide) (H _ (lw_u01 _))))⟩)
      (fun _ => ⟨pk_in 1 512 (by omega), nm_e (nm_r (e' := 2) (by decide) (br_t (by decide) (H _ (lw_u01 _))))⟩)⟩)))⟩⟩)⟩
theorem lw_prep {post : St2 → Prop} {F r : Int32} {a1 a2 a3 a4 a5 a6 a7 a8 a9 a10 a11 a12 a13 : Nat → Int32} (hF : F = 0 ∨ F = 1) (hr : ¬ r = 0 → lw_pr F a12)
    (H : ∀ r' a10' a11' a12', lw_pr F a12' → post (F, 0, r', a1, a2, a3, a4, a5, a6, a7, a8, a9, a10', a11', a12', a13)) : wpX_prepare post (F, 0, r, a1, a2, a3, a4, a5, a6, a7, a8, a9, a10, a11, a12, a13) := by
  unfold wpX_prepare
  refine br_c (fun _ => ?_) (fun g => H r a10 a11 a12 (hr g))
  refine lw_find (fun a10' a11' h => ?_)
  rcases hF with rfl | rfl
  · exact lw_p0 h (fun a12' h' => H _ _ _ _ h')
  · exact lw_p1 h (fun a12' h' => H _ _ _ _ h')
/-! folding -/
theorem lw_fold0 {post : Int32 → St2 → Prop} {c r : Int32} {a1 a2 a3 a4 a5 a6 a7 a8 a9 a10 a11 a12 a13 : Nat → Int32} (h : lw_pr 0 a12) (H : ∀ a13', post 1 (0, c, r, a1, a2, a3, a4, a5, a6, a7, a8, a9, a10, a11, a12, a13')) : wpX_fold post (0, c, r, a1, a2, a3, a4, a5, a6, a7, a8, a9, a10, a11, a12, a13) 0 := by
  refine ⟨2, br_f (by decide) ⟨pk_in 0 512 (by omega), br_f (by rw [sb_cl0]; exact h.1) (br_t (by decide) ⟨pk_in 0 512 (by omega), nm_e (nm_r (e' := 1) (by decide) (br_t (by decide) (nm_r (e' := -1) (by decide) ⟨1, br_t (by decide) ?_⟩)))⟩)⟩⟩
  rw [sb_cl0, pk_us]
  exact H _
theorem lw_f63 {post : Int32 → St2 → Prop} {c r v w : Int32} {a1 a2 a3 a4 a5 a6 a7 a8 a9 a10 a11 a12 a13 : Nat → Int32} (h0 : a13 0 = v) (h1 : a13 1 = w) (H : ∀ a13', post (v * (4 - a4 0) + w * a4 0) (1, c, r, a1, a2, a3, a4, a5, a6, a7, a8, a9, a10, a11, a12, a13')) : ∃ n, wX_fold_52 post 1 c r n 0 a1 a2 a3 a4 a5 a6 a7 a8 a9 a10 a11 a12 a13 := by
  refine ⟨2, br_f (by decide) (nm_r (e' := 1) (by decide) ⟨2, br_f (by decide) ⟨pk_in 0 512 (by omega), pk_in 0 9 (by omega), pk_in 1 512 (by omega), pk_in 0 9 (by omega), pk_in 0 512 (by omega), nm_e (nm_r (e' := 1) (by decide) (br_t (by decide) (nm_r (e' := -1) (by decide) (br_t (by decide) ?_))))⟩⟩)⟩
  have e : (0 : Int32) + 1 = 1 := by decide
  rw [e, sb_cl0, lw_c1, pk_us, h0, h1]
  exact H _
theorem lw_fold1 {post : Int32 → St2 → Prop} {c r m v : Int32} {a1 a2 a3 a4 a5 a6 a7 a8 a9 a10 a11 a12 a13 : Nat → Int32} (h : lw_pr 1 a12) (hm : (m = 0 ∧ v = 4) ∨ (m = 1 ∧ v = a4 0)) (H : ∀ a13', post v (1, c, r, a1, a2, a3, a4, a5, a6, a7, a8, a9, a10, a11, a12, a13')) : wpX_fold post (1, c, r, a1, a2, a3, a4, a5, a6, a7, a8, a9, a10, a11, a12, a13) m := by
  have k1 : ∀ x : Int32, upd (upd a13 (0 : Int32).toNatClampNeg x) (1 : Int32).toNatClampNeg 1 0 = x := fun x => by
    rw [sb_cl0, lw_c1, pk_un (by decide), pk_us]
  have k2 : ∀ x : Int32, upd (upd a13 (0 : Int32).toNatClampNeg x) (1 : Int32).toNatClampNeg 1 1 = 1 := fun x => by
    rw [sb_cl0, lw_c1, pk_us]
  have i0 : ¬ a12 (0 : Int32).toNatClampNeg = 0 := by rw [sb_cl0]; exact h.1
  have i1 : ¬ a12 (1 : Int32).toNatClampNeg = 0 := by rw [lw_c1]; exact h.2 rfl
  rcases hm with ⟨rfl, rfl⟩ | ⟨rfl, rfl⟩
  · refine ⟨3, br_f (by decide) ⟨pk_in 0 512 (by omega), br_f i0 (br_t (by decide) ⟨pk_in 0 512 (by omega), nm_e (nm_r (e' := 1) (by decide)
      (br_f (by decide) ⟨pk_in 1 512 (by omega), br_f i1 (br_t (by decide) ⟨pk_in 1 512 (by omega), nm_e (nm_r (e' := 2) (by decide) (br_t (by decide) (nm_r (e' := 0) (by decide) (lw_f63 (k1 1) (k2 1) ?_))))⟩)⟩))⟩)⟩⟩
    have e : (1 : Int32) * (4 - a4 0) + 1 * a4 0 = 4 := by grind
    rw [e]
    exact H
  · refine ⟨3, br_f (by decide) ⟨pk_in 0 512 (by omega), br_f i0 (br_f (by decide) ⟨pk_in 0 512 (by omega), nm_e (nm_r (e' := 1) (by decide)
      (br_f (by decide) ⟨pk_in 1 512 (by omega), br_f i1 (br_t (by decide) ⟨pk_in 1 512 (by omega), nm_e (nm_r (e' := 2) (by decide) (br_t (by decide) (nm_r (e' := 0) (by decide) (lw_f63 (k1 0) (k2 0) ?_))))⟩)⟩))⟩)⟩⟩
    have e : (0 : Int32) * (4 - a4 0) + 1 * a4 0 = a4 0 := by grind
    rw [e]
    exact H
/-! the questions -/
theorem lw_share {post : Int32 → St2 → Prop} {F r v : Int32} {a1 a2 a3 a4 a5 a6 a7 a8 a9 a10 a11 a12 a13 : Nat → Int32} (hF : (F = 0 ∧ v = 1) ∨ (F = 1 ∧ v = 4)) (hr : ¬ r = 0 → lw_pr F a12)
    (H : ∀ r' a10' a11' a12' a13', post v (F, 0, r', a1, a2, a3, a4, a5, a6, a7, a8, a9, a10', a11', a12', a13')) : wpX_share post (F, 0, r, a1, a2, a3, a4, a5, a6, a7, a8, a9, a10, a11, a12, a13) := by
  unfold wpX_share
  refine lw_prep (hF.elim (fun g => Or.inl g.1) (fun g => Or.inr g.1)) hr (fun r' a10' a11' a12' h => ?_)
  rcases hF with ⟨rfl, rfl⟩ | ⟨rfl, rfl⟩
  · exact lw_fold0 h (fun a13' => H _ _ _ _ _)
  · exact lw_fold1 h (Or.inl ⟨rfl, rfl⟩) (fun a13' => H _ _ _ _ _)
theorem lw_with {post : Int32 → St2 → Prop} {F r x : Int32} {a1 a2 a3 a4 a5 a6 a7 a8 a9 a10 a11 a12 a13 : Nat → Int32} (hF : F = 0 ∨ F = 1) (hr : ¬ r = 0 → lw_pr F a12)
    (h1 : ¬ (F = 1 ∧ x = 0) → post (-4) (F, 0, r, a1, a2, a3, a4, a5, a6, a7, a8, a9, a10, a11, a12, a13))
    (h0 : F = 1 → x = 0 → ∀ r' a10' a11' a12' a13', lw_pr F a12' → post (a4 0) (F, 0, r', a1, a2, a3, a4, a5, a6, a7, a8, a9, a10', a11', a12', a13')) : wpX_shareWith post (F, 0, r, a1, a2, a3, a4, a5, a6, a7, a8, a9, a10, a11, a12, a13) x := by
  unfold wpX_shareWith
  refine lw_nof hF (fun g => br_f (by decide) (h1 g)) (fun g1 g2 => br_t rfl ?_)
  subst g1 g2
  refine lw_prep (Or.inr rfl) hr (fun r' a10' a11' a12' h => ?_)
  exact lw_fold1 h (Or.inr ⟨by decide, rfl⟩) (fun a13' => h0 rfl rfl _ _ _ _ _ h)
end
section
/-! the law, from its last check up -/
theorem lw_238 {post : Int32 → St0 → Prop} {mc ms kc ks : Nat} {F c r x8 z : Int32} {a1 a2 a3 a4 a5 a6 a7 a8 a9 a10 a11 a12 a13 : Nat → Int32} (hp : post 1 ()) (hF : lw_fx F x8) : wL_lawOf_238 post mc ms x8 z z kc ks F c r a1 a2 a3 a4 a5 a6 a7 a8 a9 a10 a11 a12 a13 := by
  refine br_t rfl ?_
  rcases hF with ⟨rfl, rfl⟩ | ⟨rfl, rfl⟩
  · exact br_t rfl (br_t (by decide) hp)
  · exact br_f (by decide) (br_t (by decide) hp)
theorem lw_202 {post : Int32 → St0 → Prop} {mc ms kc ks : Nat} {F r x0 x4 x5 x8 z : Int32} {a1 a2 a3 a4 a5 a6 a7 a8 a9 a10 a11 a12 a13 : Nat → Int32} (hp : post 1 ()) (hF : lw_fx F x8) : wL_lawOf_202 post mc ms x0 x4 x5 x8 z z kc ks F 0 r a1 a2 a3 a4 a5 a6 a7 a8 a9 a10 a11 a12 a13 := by
  refine br_t rfl (lw_cond (fun g1 g2 a5' a6' a7' => ?_) (fun g => ?_))
  · exact lw_end (fun _ => br_f (by decide) (lw_end (fun _ => br_f (by decide) (lw_238 hp hF)) (fun h => absurd g2 h))) (fun h => absurd g1 h)
  · exact lw_end (fun g1 => br_f (by decide) (lw_end (fun g2 => absurd ⟨g1, g2⟩ g) (fun _ => br_t rfl (lw_238 hp hF)))) (fun _ => br_t rfl (lw_238 hp hF))
theorem lw_182 {post : Int32 → St0 → Prop} {mc ms kc ks : Nat} {F r x0 x4 x5 x8 z : Int32} {a1 a2 a3 a4 a5 a6 a7 a8 a9 a10 a11 a12 a13 : Nat → Int32} (hp : post 1 ()) (hF : lw_fx F x8) (hr : ¬ r = 0 → lw_pr F a12) : wL_lawOf_182 post mc ms x0 x4 x5 x8 z z kc ks F 0 r a1 a2 a3 a4 a5 a6 a7 a8 a9 a10 a11 a12 a13 := by
  refine br_t rfl ?_
  rcases hF with ⟨rfl, rfl⟩ | ⟨rfl, rfl⟩
  · exact lw_share (Or.inl ⟨rfl, rfl⟩) hr (fun _ _ _ _ _ => br_t rfl (lw_202 hp (Or.inl ⟨rfl, rfl⟩)))
  · exact lw_share (Or.inr ⟨rfl, rfl⟩) hr (fun _ _ _ _ _ => br_f (by decide) (lw_202 hp (Or.inr ⟨rfl, rfl⟩)))
theorem lw_fx1 {F x : Int32} (h : lw_fx F x) : F = 0 ∨ F = 1 := h.elim (fun g => Or.inl g.1) (fun g => Or.inr g.1)
/-- x9: whether the fact i is there -/
def lw_th (F x2 x9 : Int32) : Prop := (x9 = 0 ∧ ¬ (F = 1 ∧ x2 = 0)) ∨ (x9 = 1 ∧ F = 1 ∧ x2 = 0)
theorem lw_151 {post : Int32 → St0 → Prop} {mc ms kc ks : Nat} {F r x0 x1 x2 x3 x4 x5 x8 x9 x10 z : Int32} {a1 a2 a3 a4 a5 a6 a7 a8 a9 a10 a11 a12 a13 : Nat → Int32} (hp : post 1 ()) (hF : lw_fx F x8) (hr : ¬ r = 0 → lw_pr F a12) (h9 : lw_th F x2 x9)
    (hb : F = 1 → x2 = 0 → x10 = 0 → a4 0 = x1) (hg : F = 1 → x2 = 0 → ¬ x10 = 0 → a4 0 = x3) : wL_lawOf_151 post mc ms x0 x1 x2 x3 x4 x5 x8 x9 x10 z z kc ks F 0 r a1 a2 a3 a4 a5 a6 a7 a8 a9 a10 a11 a12 a13 := by
  refine br_t rfl (lw_with (lw_fx1 hF) hr (fun g => ?_) (fun g1 g2 r' a10' a11' a12' a13' h => ?_))
  · rcases h9 with ⟨rfl, _⟩ | ⟨_, g'⟩
    · exact br_t rfl (lw_182 hp hF hr)
    · exact absurd g' g
  · rcases h9 with ⟨_, g'⟩ | ⟨rfl, _⟩
    · exact absurd ⟨g1, g2⟩ g'
    · refine br_f (by decide) (br_c (fun e => ?_) (fun e => ?_))
      · rw [hb g1 g2 e]
        exact lw_182 hp hF (fun _ => h)
      · rw [hg g1 g2 e]
        exact lw_182 hp hF (fun _ => h)
theorem lw_121 {post : Int32 → St0 → Prop} {mc ms kc ks : Nat} {F x0 x1 x2 x3 x4 x5 x8 x9 z0 : Int32} {a1 a2 a3 a4 a5 a6 a7 a8 a9 a10 a11 a12 a13 : Nat → Int32} (hp : post 1 ()) (hF : lw_fx F x8) (h9 : lw_th F x2 x9) (h4 : F = 1 → a4 0 = x1)
    (hz : (z0 = 0 ∧ ¬ lw_nm x3) ∨ (z0 = 1 ∧ lw_nm x3)) : wL_lawOf_121 post mc ms x0 x1 x2 x3 x4 x5 x8 x9 z0 kc ks F 0 0 a1 a2 a3 a4 a5 a6 a7 a8 a9 a10 a11 a12 a13 := by
  unfold wL_lawOf_121
  refine lw_likely (lw_fx1 hF) (fun g => ?_) (fun g1 g2 g3 => ?_) (fun g1 g2 g3 => ?_)
  · rcases h9 with ⟨rfl, g'⟩ | ⟨_, g'⟩
    · exact br_t rfl (lw_151 hp hF (fun z => absurd rfl z) (Or.inl ⟨rfl, g'⟩) (fun e1 e2 => absurd ⟨e1, e2⟩ g) (fun e1 e2 => absurd ⟨e1, e2⟩ g))
    · exact absurd g' g
  · rcases h9 with ⟨_, g'⟩ | ⟨rfl, g'⟩
    · exact absurd ⟨g1, g2⟩ g'
    · rcases hz with ⟨rfl, _⟩ | ⟨_, q⟩
      · exact br_f (by decide) (br_t rfl (lw_151 hp hF (fun z => absurd rfl z) (Or.inr ⟨rfl, g'⟩) (fun e1 _ _ => h4 e1) (fun _ _ e => absurd rfl e)))
      · exact absurd q g3
  · rcases h9 with ⟨_, g'⟩ | ⟨rfl, g'⟩
    · exact absurd ⟨g1, g2⟩ g'
    · rcases hz with ⟨_, q⟩ | ⟨rfl, _⟩
      · exact absurd g3 q
      · rw [h4 g1]
        exact br_f (by decide) (br_f (by decide) (lw_151 hp hF (fun z => absurd rfl z) (Or.inr ⟨rfl, g'⟩) (fun _ _ e => absurd e (by decide)) (fun _ _ _ => pk_us)))
theorem lw_104 {post : Int32 → St0 → Prop} {mc ms kc ks : Nat} {F x0 x1 x2 x3 x4 x5 x8 x9 : Int32} {a1 a2 a3 a4 a5 a6 a7 a8 a9 a10 a11 a12 a13 : Nat → Int32} (hp : post 1 ()) (hF : lw_fx F x8) (h9 : lw_th F x2 x9) (h4 : F = 1 → a4 0 = x1) : wL_lawOf_104 post mc ms x0 x1 x2 x3 x4 x5 x8 x9 kc ks F 0 0 a1 a2 a3 a4 a5 a6 a7 a8 a9 a10 a11 a12 a13 :=
  lw_lt 1 (fun a => lw_121 hp hF h9 h4 (Or.inl ⟨rfl, by unfold lw_nm; omega⟩)) (fun a =>
    lw_gt 4 (fun b => lw_121 hp hF h9 h4 (Or.inl ⟨rfl, by unfold lw_nm; omega⟩)) (fun b => lw_121 hp hF h9 h4 (Or.inr ⟨rfl, a, b⟩)))
theorem lw_85 {post : Int32 → St0 → Prop} {mc ms kc ks : Nat} {F x0 x1 x2 x3 x4 x5 x8 z : Int32} {a1 a2 a3 a4 a5 a6 a7 a8 a9 a10 a11 a12 a13 : Nat → Int32} (hp : post 1 ()) (hF : lw_fx F x8) (h4 : F = 1 → a4 0 = x1) : wL_lawOf_85 post mc ms x0 x1 x2 x3 x4 x5 x8 z z kc ks F 0 0 a1 a2 a3 a4 a5 a6 a7 a8 a9 a10 a11 a12 a13 := by
  refine br_t rfl ?_
  rcases hF with ⟨rfl, rfl⟩ | ⟨rfl, rfl⟩
  · exact br_t rfl (lw_104 hp (Or.inl ⟨rfl, rfl⟩) (Or.inl ⟨rfl, fun z => absurd z.1 (by decide)⟩) h4)
  · exact br_f (by decide) (br_c (fun e => lw_104 hp (Or.inr ⟨rfl, rfl⟩) (Or.inr ⟨rfl, rfl, e⟩) h4) (fun e => lw_104 hp (Or.inr ⟨rfl, rfl⟩) (Or.inl ⟨rfl, fun z => e z.2⟩) h4))
theorem lw_56 {post : Int32 → St0 → Prop} {mc ms kc ks : Nat} {x0 x1 x2 x3 x4 x5 x7 z0 : Int32} {a1 a2 a3 a4 a5 a6 a7 a8 a9 a10 a11 a12 a13 : Nat → Int32} (hp : post 1 ()) (h7 : (x7 = 0 ∧ z0 = 0 ∧ ¬ lw_nd x0) ∨ (x7 = 1 ∧ z0 = 0 ∧ lw_nd x0 ∧ ¬ lw_nm x1) ∨ (x7 = 1 ∧ z0 = 1 ∧ lw_nd x0 ∧ lw_nm x1)) : wL_lawOf_56 post mc ms x0 x1 x2 x3 x4 x5 x7 z0 kc ks 0 0 0 a1 a2 a3 a4 a5 a6 a7 a8 a9 a10 a11 a12 a13 := by
  unfold wL_lawOf_56
  have n1 : (0 : Int32) = 1 → a4 0 = x1 := fun e => absurd e (by decide)
  refine lw_fact (fun g => ?_) (fun g g' => ?_) (fun g g' a1' a2' a3' => ?_)
  · rcases h7 with ⟨rfl, rfl, _⟩ | ⟨_, _, h, _⟩ | ⟨_, _, h, _⟩
    · exact br_t rfl (lw_85 hp (Or.inl ⟨rfl, rfl⟩) n1)
    · exact absurd h g
    · exact absurd h g
  · rcases h7 with ⟨_, _, h⟩ | ⟨rfl, rfl, _, _⟩ | ⟨_, _, _, h⟩
    · exact absurd g h
    · exact br_f (by decide) (br_t rfl (lw_85 hp (Or.inl ⟨rfl, rfl⟩) n1))
    · exact absurd h g'
  · rcases h7 with ⟨_, _, h⟩ | ⟨_, _, _, h⟩ | ⟨rfl, rfl, _, _⟩
    · exact absurd g h
    · exact absurd g' h
    · exact br_f (by decide) (br_f (by decide) (lw_85 hp (Or.inr ⟨rfl, rfl⟩) (fun _ => pk_us)))
theorem lw_34 {post : Int32 → St0 → Prop} {mc ms kc ks : Nat} {x0 x1 x2 x3 x4 x5 x7 : Int32} {a1 a2 a3 a4 a5 a6 a7 a8 a9 a10 a11 a12 a13 : Nat → Int32} (hp : post 1 ()) (h7 : (x7 = 0 ∧ ¬ lw_nd x0) ∨ (x7 = 1 ∧ lw_nd x0)) : wL_lawOf_34 post mc ms x0 x1 x2 x3 x4 x5 x7 kc ks 0 0 0 a1 a2 a3 a4 a5 a6 a7 a8 a9 a10 a11 a12 a13 := by
  rcases h7 with ⟨rfl, h⟩ | ⟨rfl, h⟩
  · exact br_t rfl (lw_56 hp (Or.inl ⟨rfl, rfl, h⟩))
  · exact br_f (by decide) (lw_lt 1 (fun a => lw_56 hp (Or.inr (Or.inl ⟨rfl, rfl, h, by unfold lw_nm; omega⟩))) (fun a =>
      lw_gt 4 (fun b => lw_56 hp (Or.inr (Or.inl ⟨rfl, rfl, h, by unfold lw_nm; omega⟩))) (fun b => lw_56 hp (Or.inr (Or.inr ⟨rfl, rfl, h, a, b⟩)))))
theorem lw_init {post : St2 → Prop} (h : post (0, 0, 0, (fun _ => 0), (fun _ => 0), (fun _ => 0), (fun _ => 0), (fun _ => 0), (fun _ => 0), (fun _ => 0), (fun _ => 0), (fun _ => 0), (fun _ => 0), (fun _ => 0), (fun _ => 0), (fun _ => 0))) : wpX_init post 13 1597 (0, 0, 0) := by
  unfold wpX_init
  refine ⟨by omega, by omega, by omega, by omega, by omega, by omega, by omega, by omega, by omega, by omega, by omega, by omega, by omega, by omega, by omega, by omega, by omega, by omega, by omega, by omega, by omega, by omega, by omega, by omega, by omega, by omega, h⟩
theorem lw_law {post : Int32 → St0 → Prop} {x0 x1 x2 x3 x4 x5 : Int32} (hp : post 1 ()) : wpL_lawOf post 14 1613 () x0 x1 x2 x3 x4 x5 := by
  refine ⟨by omega, by omega, 13, 1597, by omega, by omega, lw_init ?_⟩
  exact lw_ge 6 (fun a => lw_34 hp (Or.inl ⟨rfl, by unfold lw_nd; omega⟩)) (fun a =>
    lw_ge 6 (fun b => lw_34 hp (Or.inl ⟨rfl, by unfold lw_nd; omega⟩)) (fun b => lw_34 hp (Or.inr ⟨rfl, a, b⟩)))
theorem lw_cell {post : Int32 → Prop} {L : Nat} {xs : Nat → Int32} {p : Int32} (k : Nat) (hL : L ≤ 6) (hk : k < 6) (hp : p = nI k) (h : ∀ v, post v) : wpL_cellAt post L xs () p := by
  subst hp
  exact pk_le L k (fun _ => h _) (fun z => ⟨pk_in k L z, h _⟩)
/-! what is owed -/
theorem i_vc (xs : Nat → Int32) (L : Nat) (hL : L ≤ 6) : wpL_law (fun r => r = 1) L xs := by
  unfold wpL_law
  refine lw_cell 0 hL (by omega) rfl (fun v0 => lw_cell 1 hL (by omega) rfl (fun v1 => lw_cell 2 hL (by omega) rfl (fun v2 => lw_cell 3 hL (by omega) rfl (fun v3 => lw_cell 4 hL (by omega) rfl (fun v4 => lw_cell 5 hL (by omega) rfl (fun v5 => ?_))))))
  exact ⟨14, 1613, by omega, by omega, lw_law rfl⟩
end
