section
/-- a term: 0..9 -/
def fd_ok (x : Int32) : Prop := ¬ x < 0 ∧ ¬ 9 < x
theorem fd_i9 : (9 : Int32).toInt = 9 := by decide
theorem fd_i10 : (10 : Int32).toInt = 10 := by decide
theorem fd_i5 : (5 : Int32).toInt = 5 := by decide
theorem fd_i6 : (6 : Int32).toInt = 6 := by decide
theorem fd_9 (x : Int32) : (10 ≤ x) ↔ (9 < x) := by
  rw [Int32.le_iff_toInt_le, Int32.lt_iff_toInt_lt, fd_i9, fd_i10]
  omega
theorem fd_5 (x : Int32) : (6 ≤ x) ↔ (5 < x) := by
  rw [Int32.le_iff_toInt_le, Int32.lt_iff_toInt_lt, fd_i5, fd_i6]
  omega
theorem fd_okN {x : Int32} (h : fd_ok x) : ∃ j : Nat, j ≤ 9 ∧ x = nI j :=
  nI_of2 (M := 9) (n := 9) (by decide) h.1 (Int32.not_lt.mp h.2)
theorem fd_fld {x : Int32} (h0 : ¬ x < 0) (h1 : ¬ 5 < x) : ∃ j : Nat, j < 6 ∧ x = nI j := by
  obtain ⟨j, hj, e⟩ := nI_of2 (M := 5) (n := 5) (by decide) h0 (Int32.not_lt.mp h1)
  exact ⟨j, by omega, e⟩
theorem fd_isT {post : Int32 → Prop} {x : Int32} (h : fd_ok x) (H : post 1) : wpX_isTerm post () x :=
  br_f h.1 (br_f (fun z => h.2 ((fd_9 x).mp z)) H)
theorem fd_isTn {post : Int32 → Prop} {x : Int32} (h : ¬ fd_ok x) (H : post 0) : wpX_isTerm post () x :=
  br_c (fun _ => H) (fun g => br_t (by
    by_cases z : 9 < x
    · exact (fd_9 x).mpr z
    · exact absurd ⟨g, z⟩ h) H)
theorem fd_tfT {post : Int32 → Prop} {x : Int32} {f : Nat} (hf : f < 3) (H : post 1) (hx : x = nI f := by rfl) : wpX_isTermField post () x := by
  subst hx
  exact br_f (nI_pos (by omega)) (pk_le 3 f (fun z => absurd z (by omega)) (fun _ => H))
theorem fd_tfN {post : Int32 → Prop} {x : Int32} {f : Nat} (hf : 3 ≤ f) (h6 : f < 6) (H : post 0) (hx : x = nI f := by rfl) : wpX_isTermField post () x := by
  subst hx
  exact br_f (nI_pos (by omega)) (pk_le 3 f (fun _ => H) (fun z => absurd z (by omega)))
theorem fd_ifT {post : Int32 → Prop} {f : Nat} (hf : f < 6) (H : post 1) : wpX_isField post () (nI f) :=
  br_f (nI_pos (by omega)) (pk_le 6 f (fun z => absurd z (by omega)) (fun _ => H))
theorem fd_ifN {post : Int32 → Prop} {x : Int32} (h : x < 0 ∨ 5 < x) (H : post 0) : wpX_isField post () x :=
  br_c (fun _ => H) (fun g => br_t ((fd_5 x).mpr (h.resolve_left g)) H)
theorem fd_nfT {post : Int32 → Prop} {f : Nat} (hf : 4 ≤ f) (h6 : f < 6) (H : post 1) : wpX_isNumberField post () (nI f) :=
  pk_eq f 4 (fun _ => H) (fun g => pk_eq f 5 (fun _ => H) (fun z => absurd (show f = 5 by omega) z))
theorem fd_nfN {post : Int32 → Prop} {f : Nat} (hf : f < 4) (H : post 0) : wpX_isNumberField post () (nI f) :=
  pk_eq f 4 (fun z => absurd z (by omega)) (fun _ => pk_eq f 5 (fun z => absurd z (by omega)) (fun _ => H))
theorem fd_b1 : ∀ j, j < 48 → ¬ j = 0 → ¬ ((((1 : Int64).toUInt64 >>> ((nI j).toInt64.toUInt64 &&& Int64.toUInt64 63)).toInt64) &&& 1) = 1 := by decide +kernel
theorem fd_b0 : ∀ j, j < 48 → ¬ ((((0 : Int64).toUInt64 >>> ((nI j).toInt64.toUInt64 &&& Int64.toUInt64 63)).toInt64) &&& 1) = 1 := by decide +kernel
theorem fd_b10 : ((((1 : Int64).toUInt64 >>> ((0 : Int32).toInt64.toUInt64 &&& Int64.toUInt64 63)).toInt64) &&& 1) = 1 := by decide +kernel
theorem fd_in0 {post : Int32 → Prop} {j : Nat} (hj : j < 48) (H : post 0) : wpX_in post () 0 (nI j) := br_f (fd_b0 j hj) H
theorem fd_in1 {post : Int32 → Prop} {j : Nat} (hj : j < 48) (h0 : ¬ j = 0) (H : post 0) : wpX_in post () 1 (nI j) := br_f (fd_b1 j hj h0) H
theorem fd_in10 {post : Int32 → Prop} (H : post 1) : wpX_in post () 1 0 := br_t fd_b10 H
section
variable {a1 a2 : Nat → Int64} {a3 a4 a5 a6 a7 : Nat → Int32} {a8 : Nat → Int64} {mn : Int32}
theorem fd_doc1 {post : Int32 → Prop} (H : post 1) : wpX_isDocument post (1, mn, a1, a2, a3, a4, a5, a6, a7, a8) 0 :=
  br_f (by decide) (br_f (by decide) (br_t fd_b10 H))
theorem fd_docN {post : Int32 → Prop} {x : Int32} (h : ¬ x = 0) (H : post 0) : wpX_isDocument post (1, mn, a1, a2, a3, a4, a5, a6, a7, a8) x := by
  refine br_c (fun _ => H) (fun g => br_c (fun _ => H) (fun g2 => ?_))
  obtain ⟨j, hj, e⟩ := nI_of g
  subst e
  have hj2 : j < 48 := by
    rcases Nat.lt_or_ge j 48 with z | z
    · exact z
    · exact absurd (nI_le z hj) g2
  exact br_f (fd_b1 j hj2 (fun z => h (by rw [z]; rfl))) H
theorem fd_doc0 {post : Int32 → Prop} {x : Int32} (H : post 0) : wpX_isDocument post (0, mn, a1, a2, a3, a4, a5, a6, a7, a8) x := by
  refine br_c (fun _ => H) (fun g => br_c (fun _ => H) (fun g2 => ?_))
  obtain ⟨j, hj, e⟩ := nI_of g
  subst e
  have hj2 : j < 48 := by
    rcases Nat.lt_or_ge j 48 with z | z
    · exact z
    · exact absurd (nI_le z hj) g2
  exact br_f (fd_b0 j hj2) H
end
/-- what a field takes -/
def fd_fit (f x : Int32) : Prop := (3 ≤ f → (f = 3 → ¬ x < 0 ∧ ¬ 255 < x) ∧ (¬ f = 3 → ¬ x < (-999) ∧ ¬ 999 < x)) ∧ (¬ 3 ≤ f → fd_ok x)
theorem fd_fits {post : Int32 → Prop} {f : Nat} {x : Int32} (hf : f < 6) (H1 : fd_fit (nI f) x → post 1) (H0 : ¬ fd_fit (nI f) x → post 0) : wpX_fits post () (nI f) x := by
  by_cases h3 : f < 3
  · have n3 : ¬ (3 : Int32) ≤ nI f := nI_ge (b := 3) h3 (by decide)
    refine fd_tfT h3 (br_f (by decide) (br_c (fun g => H0 (fun z => (z.2 n3).1 g)) (fun g => br_c (fun g2 => H0 (fun z => (z.2 n3).2 ((fd_9 x).mp g2))) (fun g2 => H1 ⟨fun z => absurd z n3, fun _ => ⟨g, fun z => g2 ((fd_9 x).mpr z)⟩⟩))))
  · have g3 : (3 : Int32) ≤ nI f := nI_le (a := 3) (by omega) (by omega)
    refine fd_tfN (by omega) hf (br_t rfl (br_c (fun e => ?_) (fun e => ?_)))
    · exact br_c (fun g => H0 (fun z => ((z.1 g3).1 e).1 g)) (fun g => br_c (fun g2 => H0 (fun z => ((z.1 g3).1 e).2 g2)) (fun g2 => H1 ⟨fun _ => ⟨fun _ => ⟨g, g2⟩, fun z => absurd e z⟩, fun z => absurd g3 z⟩))
    · exact br_c (fun g => H0 (fun z => ((z.1 g3).2 e).1 g)) (fun g => br_c (fun g2 => H0 (fun z => ((z.1 g3).2 e).2 g2)) (fun g2 => H1 ⟨fun _ => ⟨fun z => absurd z e, fun _ => ⟨g, g2⟩⟩, fun z => absurd g3 z⟩))
theorem fd_ones0 {post : Int32 → Prop} (H : post 0) : wpX_ones post () 0 := ⟨0 + 1, br_f (by decide) (br_t rfl H)⟩
theorem fd_ones1 {post : Int32 → Prop} (H : post 1) : wpX_ones post () 1 :=
  ⟨0 + 1 + 1, br_f (by decide) (br_f (by decide) (nm_r (e' := 0) (by decide) (nm_r (e' := 1) (by decide) (nm_r (e' := 1) (by decide) (br_f (by decide) (br_t rfl H))))))⟩
theorem fd_m1 : ∀ i, i < 6 → ¬ nI i = -1 := by decide +kernel
section
variable {a1 a2 : Nat → Int64} {a3 a4 a5 a6 a7 : Nat → Int32} {a8 : Nat → Int64} {mn : Int32} {th : Int64}
theorem fd_beside {post : Int64 → Prop} (h8 : ∀ i, i < 6 → a8 i = th) (H : post th) : wpX_beside post (th, mn, a1, a2, a3, a4, a5, a6, a7, a8) (-1) :=
  pk_loop (σ := Unit) (fun n i _ => wX_beside_8 post (-1) th mn a1 a2 a3 a4 a5 a6 a7 a8 n th (nI i)) (fun _ _ => True) 6 0 () (by omega) trivial
    (fun n _ _ => pk_le 6 6 (fun _ => H) (fun z => absurd z (by omega)))
    (fun n i _ hi _ hw => pk_le 6 i (fun z => absurd z (by omega)) (fun _ => br_f (fd_m1 i hi) ⟨pk_in i 6 hi, nm_r (e' := th) (by rw [nI_clamp (by omega), h8 i hi]; exact Int64.and_self) (nm_r (nI_1 i) (hw () trivial))⟩))
theorem fd_match0 {post : Int32 → Prop} (h8 : ∀ i, i < 6 → a8 i = 0) (H : post 0) : wpX_matching post (0, mn, a1, a2, a3, a4, a5, a6, a7, a8) :=
  fd_beside h8 (fd_ones0 H)
theorem fd_match1 {post : Int32 → Prop} (h8 : ∀ i, i < 6 → a8 i = 1) (H : post 1) : wpX_matching post (1, mn, a1, a2, a3, a4, a5, a6, a7, a8) :=
  fd_beside h8 (fd_ones1 H)
end
end
section
section
variable {a1 a2 : Nat → Int64} {a3 a4 a5 a6 a7 : Nat → Int32} {a8 : Nat → Int64} {mn : Int32} {th : Int64}
theorem fd_mark63 {post : St2 → Prop} {x3 x4 : Int32} {x5 : Int64} (H : ∀ a2' : Nat → Int64, post (th, mn, a1, a2', a3, a4, a5, a6, a7, a8)) : ∃ n, wX_mark_63 post x3 x4 x5 th mn n 0 a1 a2 a3 a4 a5 a6 a7 a8 :=
  pk_loop (fun n i s => wX_mark_63 post x3 x4 x5 th mn n (nI i) a1 s a3 a4 a5 a6 a7 a8) (fun _ _ => True) 8 0 a2 (by omega) trivial
    (fun n s _ => pk_le 8 8 (fun _ => H s) (fun z => absurd z (by omega)))
    (fun n i s hi _ hw => pk_le 8 i (fun z => absurd z (by omega)) (fun _ => br_c
      (fun _ => br_c (fun _ => ⟨pk_in i 8 hi, pk_in i 8 hi, nm_e (nm_r (nI_1 i) (hw _ trivial))⟩) (fun _ => ⟨pk_in i 8 hi, pk_in i 8 hi, nm_e (nm_r (nI_1 i) (hw _ trivial))⟩))
      (fun _ => nm_r (nI_1 i) (hw s trivial))))
/-- marking: the words of terms and tags change, nothing else -/
theorem fd_mark {post : St2 → Prop} {p0 p1 p2 p3 : Int32} (f : Nat) (hf : f < 4) (hv : f < 3 → fd_ok p2) (H : ∀ a1' a2' : Nat → Int64, post (th, mn, a1', a2', a3, a4, a5, a6, a7, a8)) (hp : p1 = nI f := by rfl) : wpX_mark post (th, mn, a1, a2, a3, a4, a5, a6, a7, a8) p0 p1 p2 p3 := by
  subst hp
  refine nm_e ?_
  by_cases h3 : f < 3
  · obtain ⟨v, hv9, e⟩ := fd_okN (hv h3)
    subst e
    have ex : (10 : Int32) * nI f + nI v = nI (10 * f + v) := by
      rw [← nI_add, ← pk_mul]
      rfl
    refine fd_tfT h3 (br_f (by decide) (nm_r ex (br_c (fun _ => ⟨pk_in (10 * f + v) 30 (by omega), pk_in (10 * f + v) 30 (by omega), nm_e (H _ _)⟩) (fun _ => ⟨pk_in (10 * f + v) 30 (by omega), pk_in (10 * f + v) 30 (by omega), nm_e (H _ _)⟩))))
  · exact fd_tfN (f := f) (by omega) (by omega) (br_t rfl (fd_mark63 (H a1)))
theorem fd_place0 {post : Int32 → Prop} {p0 p1 p2 : Int32} (H : post 0) : wpX_placeOf post (th, 0, a1, a2, a3, a4, a5, a6, a7, a8) p0 p1 p2 :=
  nm_e ⟨0 + 1, br_f (by decide) (br_t (by decide) H)⟩
theorem fd_enter4 {post : St2 → Prop} (H : post (th, 0, a1, a2, a3, upd a4 0 0, a5, a6, a7, a8)) : wpX_enter post (th, 0, a1, a2, a3, a4, a5, a6, a7, a8) 4 0 :=
  nm_r (e' := 0) (by decide) ⟨pk_in 4 288 (by decide) (by decide), fd_place0 ⟨0 + 1, br_t (by decide) ⟨pk_in 0 96 (by decide) (by decide), nm_r (e' := upd a4 0 0) (by rw [show ((0 : Int32) + 0).toNatClampNeg = 0 by decide]) H⟩⟩⟩
theorem fd_enter5 {post : St2 → Prop} (H : post (th, 0, a1, a2, a3, upd a4 48 0, a5, a6, a7, a8)) : wpX_enter post (th, 0, a1, a2, a3, a4, a5, a6, a7, a8) 5 0 :=
  nm_r (e' := 48) (by decide) ⟨pk_in 5 288 (by decide) (by decide), fd_place0 ⟨0 + 1, br_t (by decide) ⟨pk_in 48 96 (by decide) (by decide), nm_r (e' := upd a4 48 0) (by rw [show ((48 : Int32) + 0).toNatClampNeg = 48 by decide]) H⟩⟩⟩
theorem fd_place4 {post : Int32 → Prop} (h4 : a4 0 = 0) (H : post 0) : wpX_placeOf post (th, 1, a1, a2, a3, a4, a5, a6, a7, a8) 4 (a3 ((6 : Int32) * 0 + 4).toNatClampNeg) 0 :=
  nm_r (e' := 0) (by decide) ⟨0 + 1 + 1, br_f (by decide) (br_f (by decide) ⟨by decide, nm_r (e' := 0) (by decide) ⟨pk_in 0 96 (by decide) (by decide), nm_r (e' := 0) (by rw [show ((0 : Int32) + 0).toNatClampNeg = 0 by decide]; exact h4) ⟨pk_in 4 288 (by decide) (by decide), nm_e (br_f Int32.lt_irrefl (br_t rfl (br_t (by decide) (nm_r (e' := 1) (by decide) (br_f (by decide) (br_t (by decide) H))))))⟩⟩⟩)⟩
theorem fd_place5 {post : Int32 → Prop} (h4 : a4 48 = 0) (H : post 0) : wpX_placeOf post (th, 1, a1, a2, a3, a4, a5, a6, a7, a8) 5 (a3 ((6 : Int32) * 0 + 5).toNatClampNeg) 0 :=
  nm_r (e' := 48) (by decide) ⟨0 + 1 + 1, br_f (by decide) (br_f (by decide) ⟨by decide, nm_r (e' := 0) (by decide) ⟨pk_in 48 96 (by decide) (by decide), nm_r (e' := 0) (by rw [show ((48 : Int32) + 0).toNatClampNeg = 48 by decide]; exact h4) ⟨pk_in 5 288 (by decide) (by decide), nm_e (br_f Int32.lt_irrefl (br_t rfl (br_t (by decide) (nm_r (e' := 1) (by decide) (br_f (by decide) (br_t (by decide) H))))))⟩⟩⟩)⟩
theorem fd_leave4 {post : St2 → Prop} (h4 : a4 0 = 0) (H : post (th, 1, a1, a2, a3, a4, a5, a6, a7, a8)) : wpX_leave post (th, 1, a1, a2, a3, a4, a5, a6, a7, a8) 4 0 :=
  nm_e ⟨pk_in 4 288 (by decide) (by decide), fd_place4 h4 ⟨0 + 1, br_t (by decide) H⟩⟩
theorem fd_leave5 {post : St2 → Prop} (h4 : a4 48 = 0) (H : post (th, 1, a1, a2, a3, a4, a5, a6, a7, a8)) : wpX_leave post (th, 1, a1, a2, a3, a4, a5, a6, a7, a8) 5 0 :=
  nm_e ⟨pk_in 5 288 (by decide) (by decide), fd_place5 h4 ⟨0 + 1, br_t (by decide) H⟩⟩
theorem fd_refresh {post : St2 → Prop} {i : Nat} (hi : i < 6) (h5 : ∀ j, a5 j = 0) (H : post (th, mn, a1, a2, a3, a4, a5, a6, a7, vp_updL a8 i th)) : wpX_refresh post (th, mn, a1, a2, a3, a4, a5, a6, a7, a8) (nI i) :=
  ⟨pk_in i 6 hi, br_t (h5 _) ⟨pk_in i 6 hi, nm_r (e' := vp_updL a8 i th) (by rw [nI_clamp (by omega)]) H⟩⟩
theorem fd_refreshAll {post : St2 → Prop} (h5 : ∀ j, a5 j = 0) (H : ∀ a8' : Nat → Int64, (∀ j, j < 6 → a8' j = th) → post (th, mn, a1, a2, a3, a4, a5, a6, a7, a8')) : wpX_refreshAll post (th, mn, a1, a2, a3, a4, a5, a6, a7, a8) :=
  pk_loop (fun n i s => wX_refreshAll_2 post n (nI i) th mn a1 a2 a3 a4 a5 a6 a7 s) (fun i s => ∀ j, j < i → s j = th) 6 0 a8 (by omega) (fun j hj => absurd hj (by omega))
    (fun n s h => pk_le 6 6 (fun _ => H s h) (fun z => absurd z (by omega)))
    (fun n i s hi h hw => pk_le 6 i (fun z => absurd z (by omega)) (fun _ => fd_refresh hi h5 (nm_r (nI_1 i) (hw _ (fun j hj => by
      by_cases e : j = i
      · rw [e]
        exact pk_uLs
      · rw [pk_uLn e]
        exact h j (by omega))))))
end
end
section
/-- the desk with its one document -/
def fd_K (a3 a4 a5 : Nat → Int32) (a8 : Nat → Int64) : Prop := a4 0 = 0 ∧ a4 48 = 0 ∧ (∀ j, a5 j = 0) ∧ (∀ j, j < 6 → a8 j = 1) ∧ (∀ j, j < 3 → fd_ok (a3 j))
/-- what a field has after make -/
def fd_old (a b c f : Int32) : Int32 := if f = 0 then a else if f = 1 then b else if f = 2 then c else 0
theorem fd_uo {a3 : Nat → Int32} {k : Nat} {x : Int32} (h : ∀ j, j < 3 → fd_ok (a3 j)) (hx : k < 3 → fd_ok x) : ∀ j, j < 3 → fd_ok (upd a3 k x j) := by
  intro j hj
  by_cases e : j = k
  · rw [e, pk_us]
    exact hx (by omega)
  · rw [pk_un e]
    exact h j hj
theorem fd_ix (f : Nat) : (6 : Int32) * 0 + nI f = nI f := by
  rw [show (6 : Int32) * 0 = 0 by decide, Int32.zero_add]
section
variable {a1 a2 : Nat → Int64} {a3 a4 a5 a6 a7 : Nat → Int32} {a8 : Nat → Int64} {mn : Int32} {th : Int64}
theorem fd_m73e {post : Int32 → St2 → Prop} {a b c : Int32} {n : Nat} (ha : fd_ok a) (hb : fd_ok b) (hc : fd_ok c) (h3 : ∀ j, j < 6 → a3 j = fd_old a b c (nI j)) (h5 : ∀ j, a5 j = 0)
    (H : ∀ (a1' a2' : Nat → Int64) (a3' a4' : Nat → Int32) (a8' : Nat → Int64), fd_K a3' a4' a5 a8' → (∀ j, j < 6 → a3' j = fd_old a b c (nI j)) → post 0 (1, 1, a1', a2', a3', a4', a5, a6, a7, a8')) :
    wX_make_73 post a b c 0 1 0 (n + 1) 6 a1 a2 a3 a4 a5 a6 a7 a8 := by
  have K3 : ∀ j, j < 3 → fd_ok (a3 j) := by
    intro j hj
    rw [h3 j (by omega)]
    rcases j with _ | _ | _ | j
    · exact ha
    · exact hb
    · exact hc
    · omega
  refine br_t (by decide) (fd_mark 0 (by omega) (fun _ => ha) (fun b1 b2 => ?_))
  refine fd_mark 1 (by omega) (fun _ => hb) (fun c1 c2 => ?_)
  refine fd_mark 2 (by omega) (fun _ => hc) (fun d1 d2 => ?_)
  refine fd_enter4 ?_
  refine fd_enter5 ?_
  refine nm_r (e' := 1) (by decide) ?_
  refine fd_refreshAll h5 (fun b8 h8 => ?_)
  exact H d1 d2 a3 _ b8 ⟨by rw [pk_un (by omega), pk_us], pk_us, h5, h8, K3⟩ h3
theorem fd_u6 {a b c : Int32} : ∀ j, j < 6 → upd (upd (upd (upd (upd (upd a3 0 a) 1 b) 2 c) 3 0) 4 0) 5 0 j = fd_old a b c (nI j) := by
  intro j hj
  rcases j with _ | _ | _ | _ | _ | _ | j
  · rfl
  · rfl
  · rfl
  · rfl
  · rfl
  · rfl
  · omega
theorem fd_m73 {post : Int32 → St2 → Prop} {a b c : Int32} (ha : fd_ok a) (hb : fd_ok b) (hc : fd_ok c) (h5 : ∀ j, a5 j = 0)
    (H : ∀ (a1' a2' : Nat → Int64) (a3' a4' : Nat → Int32) (a8' : Nat → Int64), fd_K a3' a4' a5 a8' → (∀ j, j < 6 → a3' j = fd_old a b c (nI j)) → post 0 (1, 1, a1', a2', a3', a4', a5, a6, a7, a8')) :
    ∃ n, wX_make_73 post a b c 0 1 0 n 0 a1 a2 a3 a4 a5 a6 a7 a8 := by
  refine ⟨0 + 1 + 1 + 1 + 1 + 1 + 1 + 1, ?_⟩
  refine br_f (by decide) (br_t rfl ⟨pk_in 0 288 (by decide) (by decide), nm_r (e' := upd a3 0 a) (by rw [show ((6 : Int32) * 0 + 0).toNatClampNeg = 0 by decide]) (nm_r (e' := 1) (by decide) ?_)⟩)
  refine br_f (by decide) (br_f (by decide) (br_t rfl ⟨pk_in 1 288 (by decide) (by decide), nm_r (e' := upd (upd a3 0 a) 1 b) (by rw [show ((6 : Int32) * 0 + 1).toNatClampNeg = 1 by decide]) (nm_r (e' := 2) (by decide) ?_)⟩))
  refine br_f (by decide) (br_f (by decide) (br_f (by decide) (br_t rfl ⟨pk_in 2 288 (by decide) (by decide), nm_r (e' := upd (upd (upd a3 0 a) 1 b) 2 c) (by rw [show ((6 : Int32) * 0 + 2).toNatClampNeg = 2 by decide]) (nm_r (e' := 3) (by decide) ?_)⟩)))
  refine br_f (by decide) (br_f (by decide) (br_f (by decide) (br_f (by decide) ⟨pk_in 3 288 (by decide) (by decide), nm_r (e' := upd (upd (upd (upd a3 0 a) 1 b) 2 c) 3 0) (by rw [show ((6 : Int32) * 0 + 3).toNatClampNeg = 3 by decide]) (nm_r (e' := 4) (by decide) ?_)⟩)))
  refine br_f (by decide) (br_f (by decide) (br_f (by decide) (br_f (by decide) ⟨pk_in 4 288 (by decide) (by decide), nm_r (e' := upd (upd (upd (upd (upd a3 0 a) 1 b) 2 c) 3 0) 4 0) (by rw [show ((6 : Int32) * 0 + 4).toNatClampNeg = 4 by decide]) (nm_r (e' := 5) (by decide) ?_)⟩)))
  refine br_f (by decide) (br_f (by decide) (br_f (by decide) (br_f (by decide) ⟨pk_in 5 288 (by decide) (by decide), nm_r (e' := upd (upd (upd (upd (upd (upd a3 0 a) 1 b) 2 c) 3 0) 4 0) 5 0) (by rw [show ((6 : Int32) * 0 + 5).toNatClampNeg = 5 by decide]) (nm_r (e' := 6) (by decide) ?_)⟩)))
  exact fd_m73e ha hb hc fd_u6 h5 H
theorem fd_make {post : Int32 → St2 → Prop} {a b c : Int32} (ha : fd_ok a) (hb : fd_ok b) (hc : fd_ok c) (h5 : ∀ j, a5 j = 0)
    (H : ∀ (a1' a2' : Nat → Int64) (a3' a4' : Nat → Int32) (a8' : Nat → Int64), fd_K a3' a4' a5 a8' → (∀ j, j < 6 → a3' j = fd_old a b c (nI j)) → post 0 (1, 1, a1', a2', a3', a4', a5, a6, a7, a8')) :
    wpX_make post (0, 0, a1, a2, a3, a4, a5, a6, a7, a8) a b c := by
  unfold wpX_make
  refine fd_isT ha (br_f (by decide) ?_)
  refine fd_isT hb (br_f (by decide) ?_)
  refine fd_isT hc (br_f (by decide) ?_)
  refine br_t (by decide) ⟨0 + 1, ?_⟩
  unfold wX_make_39
  refine fd_in0 (j := 0) (by decide) (br_t rfl (nm_r (e' := 1) (by decide) ?_))
  exact fd_m73 ha hb hc h5 H
theorem fd_makeN {post : Int32 → St2 → Prop} {a b c : Int32} (h : ¬ (fd_ok a ∧ fd_ok b ∧ fd_ok c)) (H : post (-3) (th, mn, a1, a2, a3, a4, a5, a6, a7, a8)) :
    wpX_make post (th, mn, a1, a2, a3, a4, a5, a6, a7, a8) a b c := by
  unfold wpX_make
  by_cases ha : fd_ok a
  · refine fd_isT ha (br_f (by decide) ?_)
    by_cases hb : fd_ok b
    · refine fd_isT hb (br_f (by decide) ?_)
      exact fd_isTn (fun hc => h ⟨ha, hb, hc⟩) (br_t rfl H)
    · exact fd_isTn hb (br_t rfl H)
  · exact fd_isTn ha (br_t rfl H)
theorem fd_setE {post : Int32 → St2 → Prop} {x f v : Int32} (H : post (-1) (0, mn, a1, a2, a3, a4, a5, a6, a7, a8)) : wpX_set post (0, mn, a1, a2, a3, a4, a5, a6, a7, a8) x f v := by
  unfold wpX_set
  exact fd_doc0 (br_t rfl H)
theorem fd_setN {post : Int32 → St2 → Prop} {x f v : Int32} (h : ¬ x = 0) (H : post (-1) (1, mn, a1, a2, a3, a4, a5, a6, a7, a8)) : wpX_set post (1, mn, a1, a2, a3, a4, a5, a6, a7, a8) x f v := by
  unfold wpX_set
  exact fd_docN h (br_t rfl H)
theorem fd_setU {post : Int32 → St2 → Prop} {f v : Int32} (h : f < 0 ∨ 5 < f) (H : post (-2) (1, mn, a1, a2, a3, a4, a5, a6, a7, a8)) : wpX_set post (1, mn, a1, a2, a3, a4, a5, a6, a7, a8) 0 f v := by
  unfold wpX_set
  exact fd_doc1 (br_f (by decide) (fd_ifN h (br_t rfl H)))
theorem fd_fitok {f : Nat} {v : Int32} (h : f < 3) (hv : fd_fit (nI f) v) : fd_ok v := hv.2 (nI_ge (b := 3) h (by decide))
theorem fd_set131 {post : Int32 → St2 → Prop} {f : Nat} (hf : f < 6) (k : fd_K a3 a4 a5 a8)
    (H : ∀ a8' : Nat → Int64, fd_K a3 a4 a5 a8' → post 1 (1, 1, a1, a2, a3, a4, a5, a6, a7, a8')) : wX_set_131 post (nI f) 1 1 a1 a2 a3 a4 a5 a6 a7 a8 := by
  unfold wX_set_131
  obtain ⟨k1, k2, k3, k4, k5⟩ := k
  refine fd_refresh hf k3 (H _ ⟨k1, k2, k3, fun j hj => ?_, k5⟩)
  by_cases e : j = f
  · rw [e]
    exact pk_uLs
  · rw [pk_uLn e]
    exact k4 j hj
theorem fd_set {post : Int32 → St2 → Prop} {f : Nat} {v : Int32} (hf : f < 6) (k : fd_K a3 a4 a5 a8)
    (Hn : ¬ fd_fit (nI f) v → post (-3) (1, 1, a1, a2, a3, a4, a5, a6, a7, a8))
    (H0 : fd_fit (nI f) v → a3 f = v → post 0 (1, 1, a1, a2, a3, a4, a5, a6, a7, a8))
    (H1 : fd_fit (nI f) v → ¬ a3 f = v → ∀ (a1' a2' : Nat → Int64) (a4' : Nat → Int32) (a8' : Nat → Int64), fd_K (upd a3 f v) a4' a5 a8' → post 1 (1, 1, a1', a2', upd a3 f v, a4', a5, a6, a7, a8')) :
    wpX_set post (1, 1, a1, a2, a3, a4, a5, a6, a7, a8) 0 (nI f) v := by
  unfold wpX_set
  refine fd_doc1 (br_f (by decide) (fd_ifT hf (br_f (by decide) (fd_fits hf (fun hv => br_f (by decide) ?_) (fun hv => br_t rfl (Hn hv))))))
  have cf : (nI f).toNatClampNeg = f := nI_clamp (by omega)
  refine nm_r (fd_ix f) ⟨pk_in f 288 (by omega), nm_r (e' := a3 f) (by rw [cf]) ?_⟩
  refine br_c (fun e => H0 hv e) (fun e => ?_)
  have k' := k
  obtain ⟨k1, k2, k3, k4, k5⟩ := k'
  have K5 : ∀ j, j < 3 → fd_ok (upd a3 f v j) := fd_uo k5 (fun h => fd_fitok h hv)
  by_cases h4 : f < 4
  · refine fd_nfN h4 (br_t rfl ?_)
    refine fd_mark f h4 (fun h => k5 f h) (fun b1 b2 => ?_)
    refine fd_mark f h4 (fun h => fd_fitok h hv) (fun c1 c2 => ?_)
    refine ⟨pk_in f 288 (by omega), nm_r (e' := upd a3 f v) (by rw [cf]) ?_⟩
    exact fd_set131 hf ⟨k1, k2, k3, k4, K5⟩ (fun b8 kb => H1 hv e c1 c2 a4 b8 kb)
  · refine fd_nfT (by omega) hf (br_f (by decide) ?_)
    have h45 : f = 4 ∨ f = 5 := by omega
    rcases h45 with h | h
    · subst h
      refine fd_leave4 k1 (nm_r (e' := 0) (by decide) ⟨pk_in 4 288 (by decide), nm_r (e' := upd a3 4 v) (by rw [cf]) ?_⟩)
      refine fd_enter4 (nm_r (e' := 1) (by decide) ?_)
      exact fd_set131 hf ⟨pk_us, by rw [pk_un (by omega)]; exact k2, k3, k4, K5⟩ (fun b8 kb => H1 hv e a1 a2 _ b8 kb)
    · subst h
      refine fd_leave5 k2 (nm_r (e' := 0) (by decide) ⟨pk_in 5 288 (by decide), nm_r (e' := upd a3 5 v) (by rw [cf]) ?_⟩)
      refine fd_enter5 (nm_r (e' := 1) (by decide) ?_)
      exact fd_set131 hf ⟨by rw [pk_un (by omega)]; exact k1, pk_us, k3, k4, K5⟩ (fun b8 kb => H1 hv e a1 a2 _ b8 kb)
theorem fd_valE {post : Int32 → Prop} {x f : Int32} (H : post (-1000)) : wpX_valueOf post (0, mn, a1, a2, a3, a4, a5, a6, a7, a8) x f := by
  unfold wpX_valueOf
  exact fd_doc0 (br_t rfl H)
theorem fd_valN {post : Int32 → Prop} {x f : Int32} (h : ¬ x = 0) (H : post (-1000)) : wpX_valueOf post (1, mn, a1, a2, a3, a4, a5, a6, a7, a8) x f := by
  unfold wpX_valueOf
  exact fd_docN h (br_t rfl H)
theorem fd_valU {post : Int32 → Prop} {f : Int32} (h : f < 0 ∨ 5 < f) (H : post (-1001)) : wpX_valueOf post (1, mn, a1, a2, a3, a4, a5, a6, a7, a8) 0 f := by
  unfold wpX_valueOf
  exact fd_doc1 (br_f (by decide) (fd_ifN h (br_t rfl H)))
theorem fd_val {post : Int32 → Prop} {f : Nat} (hf : f < 6) (H : post (a3 f)) : wpX_valueOf post (1, mn, a1, a2, a3, a4, a5, a6, a7, a8) 0 (nI f) := by
  unfold wpX_valueOf
  refine fd_doc1 (br_f (by decide) (fd_ifT hf (br_f (by decide) ⟨pk_in f 288 (by omega) (fd_ix f), ?_⟩)))
  rw [fd_ix f, nI_clamp (by omega)]
  exact H
theorem fd_difU {post : Int32 → Prop} {f : Int32} (h : f < 0 ∨ 5 < f) (H : post (-2)) : wpX_different post (th, mn, a1, a2, a3, a4, a5, a6, a7, a8) f := by
  unfold wpX_different
  exact fd_ifN h (br_t rfl H)
theorem fd_difE {post : Int32 → Prop} {f : Nat} (hf : f < 6) (h8 : ∀ j, j < 6 → a8 j = 0) (H : post 0) : wpX_different post (0, mn, a1, a2, a3, a4, a5, a6, a7, a8) (nI f) := by
  unfold wpX_different
  refine fd_ifT hf (br_f (by decide) (fd_beside h8 ?_))
  exact pk_loop (σ := Unit) (fun n i _ => wX_different_22 post (nI f) 0 0 mn a1 a2 a3 a4 a5 a6 a7 a8 n 0 (nI i)) (fun _ _ => True) 48 0 () (by omega) trivial
    (fun n _ _ => pk_le 48 48 (fun _ => H) (fun z => absurd z (by omega)))
    (fun n i _ hi _ hw => pk_le 48 i (fun z => absurd z (by omega)) (fun _ => fd_in0 hi (br_t rfl (nm_r (nI_1 i) (hw () trivial)))))
theorem fd_fresh {post : Int32 → Prop} {s : Int64} {f : Nat} (hf : f < 6) (H : post 1) : wpX_isFresh post (th, mn, a1, a2, a3, a4, a5, a6, a7, a8) s (nI f) 0 :=
  ⟨pk_in f 288 (by omega) (fd_ix f), nm_e ⟨0 + 1, br_t (by decide) H⟩⟩
theorem fd_dif {post : Int32 → Prop} {f : Nat} (hf : f < 6) (h8 : ∀ j, j < 6 → a8 j = 1) (H : post 1) : wpX_different post (1, mn, a1, a2, a3, a4, a5, a6, a7, a8) (nI f) := by
  unfold wpX_different
  refine fd_ifT hf (br_f (by decide) (fd_beside h8 ?_))
  obtain ⟨n, hn⟩ := pk_loop (σ := Unit) (fun n i _ => wX_different_22 post (nI f) 1 1 mn a1 a2 a3 a4 a5 a6 a7 a8 n 1 (nI i)) (fun i _ => 1 ≤ i) 48 1 () (by omega) (by omega)
    (fun n _ _ => pk_le 48 48 (fun _ => H) (fun z => absurd z (by omega)))
    (fun n i _ hi h1 hw => pk_le 48 i (fun z => absurd z (by omega)) (fun _ => fd_in1 hi (by omega) (br_t rfl (nm_r (nI_1 i) (hw () (by omega))))))
  refine ⟨n + 1, br_f (by decide) (fd_in10 (br_f (by decide) (fd_fresh hf (br_f (by decide) (nm_r (e' := 1) (by decide) (nm_r (e' := 1) (by decide) ?_))))))⟩
  exact hn
theorem fd_remE {post : Int32 → St2 → Prop} {x : Int32} (H : post (-1) (0, mn, a1, a2, a3, a4, a5, a6, a7, a8)) : wpX_remove post (0, mn, a1, a2, a3, a4, a5, a6, a7, a8) x := by
  unfold wpX_remove
  exact fd_doc0 (br_t rfl H)
theorem fd_remN {post : Int32 → St2 → Prop} {x : Int32} (h : ¬ x = 0) (H : post (-1) (1, mn, a1, a2, a3, a4, a5, a6, a7, a8)) : wpX_remove post (1, mn, a1, a2, a3, a4, a5, a6, a7, a8) x := by
  unfold wpX_remove
  exact fd_docN h (br_t rfl H)
theorem fd_rem {post : Int32 → St2 → Prop} (k : fd_K a3 a4 a5 a8) (H : ∀ u, post 0 u) : wpX_remove post (1, 1, a1, a2, a3, a4, a5, a6, a7, a8) 0 := by
  unfold wpX_remove
  obtain ⟨k1, k2, k3, k4, k5⟩ := k
  refine fd_doc1 (br_f (by decide) ?_)
  refine pk_loop (σ := (Nat → Int64) × (Nat → Int64)) (fun n i s => wX_remove_12 post 0 n (nI i) 1 1 s.1 s.2 a3 a4 a5 a6 a7 a8) (fun _ _ => True) 4 0 (a1, a2) (by omega) trivial ?_ ?_
  · intro n s _
    refine br_t (by decide) (fd_leave4 k1 (fd_leave5 k2 (nm_r (e' := 0) (by decide) (nm_r (e' := 0) (by decide) ?_))))
    exact fd_refreshAll k3 (fun b8 _ => H _)
  · intro n i s hi _ hw
    refine pk_lt 3 i (fun z => absurd z (by omega)) (fun _ => ⟨pk_in i 288 (by omega) (fd_ix i), ?_⟩)
    refine fd_mark i hi (fun h => ?_) (fun b1 b2 => nm_r (nI_1 i) (hw (b1, b2) trivial))
    rw [fd_ix i, nI_clamp (by omega)]
    exact k5 i h
end
end
section
/-- whether the field is known (x9), and whether the value fits it (z0) -/
def fd_kn (x4 x9 : Int32) : Prop := (x9 = 0 ∧ (x4 < 0 ∨ 5 < x4)) ∨ (x9 = 1 ∧ ∃ f : Nat, f < 6 ∧ x4 = nI f)
def fd_R (x4 x5 x9 z0 : Int32) : Prop := (x9 = 0 ∧ (x4 < 0 ∨ 5 < x4) ∧ z0 = 0) ∨ (x9 = 1 ∧ (∃ f : Nat, f < 6 ∧ x4 = nI f) ∧ ((z0 = 1 ∧ fd_fit x4 x5) ∨ (z0 = 0 ∧ ¬ fd_fit x4 x5)))
theorem fd_Rk {x4 x5 x9 z0 : Int32} (h : fd_R x4 x5 x9 z0) : fd_kn x4 x9 := by
  rcases h with ⟨e, h, _⟩ | ⟨e, h, _⟩
  · exact Or.inl ⟨e, h⟩
  · exact Or.inr ⟨e, h⟩
section
variable {post : Int32 → St0 → Prop} {mc ms kc ks : Nat} {a1 a2 : Nat → Int64} {a3 a4 a5 a6 a7 : Nat → Int32} {a8 : Nat → Int64} {x0 x1 x2 x3 x4 x5 x7 x8 x9 x10 z0 mn : Int32} {th : Int64}
theorem fd_205E (hk : fd_kn x4 x9) (h8 : ∀ j, j < 6 → a8 j = 0) (H : post 1 ()) : wL_lawOf_205 post mc ms x3 x4 x5 0 0 x9 x10 z0 kc ks 0 mn a1 a2 a3 a4 a5 a6 a7 a8 := by
  refine fd_setE (br_t rfl ?_)
  refine br_t rfl (br_t rfl ?_)
  unfold wL_lawOf_278 wL_lawOf_280
  refine fd_valE (br_t rfl ?_)
  refine br_t rfl (br_t rfl ?_)
  refine fd_match0 h8 (br_t rfl ?_)
  rcases hk with ⟨e, h⟩ | ⟨e, f, hf, h⟩
  · subst e
    exact fd_difU h (br_t rfl (br_t rfl (fd_remE (br_t rfl (br_t rfl H)))))
  · subst e h
    exact fd_difE hf h8 (br_f (by decide) (br_t rfl (fd_remE (br_t rfl (br_t rfl H)))))
theorem fd_360F (k : fd_K a3 a4 a5 a8) (hd : (x8 = 0 ∧ ¬ x3 = 0) ∨ (x8 = 1 ∧ x3 = 0)) (H : post 1 ()) : wL_lawOf_360 post mc ms x3 x8 z0 z0 kc ks 1 1 a1 a2 a3 a4 a5 a6 a7 a8 := by
  refine br_t rfl ?_
  rcases hd with ⟨e, h⟩ | ⟨e, h⟩
  · subst e
    exact fd_remN h (br_t rfl (br_t rfl H))
  · subst e h
    exact fd_rem k (fun u => br_f (by decide) (br_t rfl H))
theorem fd_329F (k : fd_K a3 a4 a5 a8) (hk : fd_kn x4 x9) (hd : (x8 = 0 ∧ ¬ x3 = 0) ∨ (x8 = 1 ∧ x3 = 0)) (H : post 1 ()) : wL_lawOf_329 post mc ms x3 x4 x8 x9 1 kc ks 1 1 a1 a2 a3 a4 a5 a6 a7 a8 := by
  have h8 := k.2.2.2.1
  refine fd_match1 h8 (br_t rfl ?_)
  rcases hk with ⟨e, h⟩ | ⟨e, f, hf, h⟩
  · subst e
    exact fd_difU h (br_t rfl (fd_360F k hd H))
  · subst e h
    exact fd_dif hf h8 (br_f (by decide) (fd_360F k hd H))
theorem fd_314F (k : fd_K a3 a4 a5 a8) (hk : fd_kn x4 x9) (hd : (x8 = 0 ∧ ¬ x3 = 0) ∨ (x8 = 1 ∧ x3 = 0)) (H : post 1 ()) : wL_lawOf_314 post mc ms x3 x4 1 x8 x9 z0 z0 kc ks 1 1 a1 a2 a3 a4 a5 a6 a7 a8 :=
  br_t rfl (br_f (by decide) (fd_329F k hk hd H))
theorem fd_280F {f : Nat} (hf : f < 6) (k : fd_K a3 a4 a5 a8) (e : a3 f = z0) (H : post 1 ()) : wL_lawOf_280 post mc ms 0 (nI f) 1 1 1 z0 kc ks 1 1 a1 a2 a3 a4 a5 a6 a7 a8 := by
  subst e
  exact fd_val hf (br_f (by decide) (br_f (by decide) (fd_314F k (Or.inr ⟨rfl, f, hf, rfl⟩) (Or.inr ⟨rfl, rfl⟩) H)))
theorem fd_205F (k : fd_K a3 a4 a5 a8) (hR : fd_R x4 x5 x9 z0) (hd : (x8 = 0 ∧ ¬ x3 = 0) ∨ (x8 = 1 ∧ x3 = 0)) (h3 : ∀ j, j < 6 → a3 j = fd_old x0 x1 x2 (nI j)) (H : post 1 ()) :
    wL_lawOf_205 post mc ms x3 x4 x5 1 x8 x9 (fd_old x0 x1 x2 x4) z0 kc ks 1 1 a1 a2 a3 a4 a5 a6 a7 a8 := by
  have hk := fd_Rk hR
  have hd' := hd
  rcases hd with ⟨e, h⟩ | ⟨e, h⟩
  · subst e
    refine fd_setN h (br_t rfl ?_)
    refine br_t rfl (br_t rfl ?_)
    unfold wL_lawOf_278 wL_lawOf_280
    exact fd_valN h (br_t rfl (fd_314F k hk hd' H))
  · subst e h
    rcases hR with ⟨e, h, ez⟩ | ⟨e, ⟨f, hf, h⟩, hz⟩
    · subst e ez
      refine fd_setU h (br_f (by decide) (br_t rfl ?_))
      refine br_t rfl (br_f (by decide) (br_t rfl ?_))
      unfold wL_lawOf_278 wL_lawOf_280
      exact fd_valU h (br_f (by decide) (br_t rfl (fd_314F k hk hd' H)))
    · subst e h
      refine fd_set hf k (fun hv => ?_) (fun hv e => ?_) (fun hv e b1 b2 b4 b8 kb => ?_)
      · rcases hz with ⟨_, g⟩ | ⟨ez, _⟩
        · exact absurd g hv
        subst ez
        refine br_f (by decide) (br_f (by decide) (br_t rfl ?_))
        exact br_t rfl (br_f (by decide) (br_t rfl (fd_280F hf k (h3 f hf) H)))
      · rcases hz with ⟨ez, _⟩ | ⟨_, g⟩
        rotate_left 1
        · exact absurd hv g
        subst ez
        refine br_f (by decide) (br_f (by decide) (br_f (by decide) (br_t (by rw [← h3 f hf]; exact e) ?_)))
        exact br_t rfl (br_f (by decide) (br_f (by decide) (fd_280F hf k e H)))
      · rcases hz with ⟨ez, _⟩ | ⟨_, g⟩
        rotate_left 1
        · exact absurd hv g
        subst ez
        refine br_f (by decide) (br_f (by decide) (br_f (by decide) (br_f (by rw [← h3 f hf]; exact e) ?_)))
        exact br_t rfl (br_f (by decide) (br_f (by decide) (fd_280F hf kb pk_us H)))
theorem fd_134 (hk : fd_kn x4 x9) (H : ∀ z0, fd_R x4 x5 x9 z0 → wL_lawOf_205 post mc ms x3 x4 x5 x7 x8 x9 x10 z0 kc ks th mn a1 a2 a3 a4 a5 a6 a7 a8) :
    wL_lawOf_134 post mc ms x3 x4 x5 x7 x8 x9 x10 kc ks th mn a1 a2 a3 a4 a5 a6 a7 a8 := by
  rcases hk with ⟨e, h⟩ | ⟨e, h⟩
  · subst e
    exact br_t rfl (H 0 (Or.inl ⟨rfl, h, rfl⟩))
  · subst e
    have T : fd_fit x4 x5 → wL_lawOf_200 post mc ms x3 x4 x5 x7 x8 1 x10 kc ks th mn a1 a2 a3 a4 a5 a6 a7 a8 := fun z => H 1 (Or.inr ⟨rfl, h, Or.inl ⟨rfl, z⟩⟩)
    have F : ¬ fd_fit x4 x5 → wL_lawOf_204 post mc ms x3 x4 x5 x7 x8 1 x10 kc ks th mn a1 a2 a3 a4 a5 a6 a7 a8 := fun z => H 0 (Or.inr ⟨rfl, h, Or.inr ⟨rfl, z⟩⟩)
    refine br_f (by decide) (br_c (fun g3 => br_c (fun e => ?_) (fun e => ?_)) (fun n3 => ?_))
    · exact br_c (fun g => F (fun z => ((z.1 g3).1 e).1 g)) (fun g => br_c (fun g2 => F (fun z => ((z.1 g3).1 e).2 g2)) (fun g2 => T ⟨fun _ => ⟨fun _ => ⟨g, g2⟩, fun z => absurd e z⟩, fun z => absurd g3 z⟩))
    · exact br_c (fun g => F (fun z => ((z.1 g3).2 e).1 g)) (fun g => br_c (fun g2 => F (fun z => ((z.1 g3).2 e).2 g2)) (fun g2 => T ⟨fun _ => ⟨fun z => absurd z e, fun _ => ⟨g, g2⟩⟩, fun z => absurd g3 z⟩))
    · exact br_c (fun g => F (fun z => (z.2 n3).1 g)) (fun g => br_c (fun g2 => F (fun z => (z.2 n3).2 g2)) (fun g2 => T ⟨fun z => absurd z n3, fun _ => ⟨g, g2⟩⟩))
theorem fd_102 (hk : fd_kn x4 x9) (H : ∀ z0, fd_R x4 x5 x9 z0 → wL_lawOf_205 post mc ms x3 x4 x5 x7 x8 x9 (fd_old x0 x1 x2 x4) z0 kc ks th mn a1 a2 a3 a4 a5 a6 a7 a8) :
    wL_lawOf_102 post mc ms x0 x1 x2 x3 x4 x5 x7 x8 x9 kc ks th mn a1 a2 a3 a4 a5 a6 a7 a8 := by
  unfold fd_old at H
  refine br_c (fun e => ?_) (fun n0 => br_c (fun e => ?_) (fun n1 => br_c (fun e => ?_) (fun n2 => ?_)))
  · rw [if_pos e] at H
    exact fd_134 hk H
  · rw [if_neg n0, if_pos e] at H
    exact fd_134 hk H
  · rw [if_neg n0, if_neg n1, if_pos e] at H
    exact fd_134 hk H
  · rw [if_neg n0, if_neg n1, if_neg n2] at H
    exact fd_134 hk H
theorem fd_84 (H : ∀ x9 z0, fd_R x4 x5 x9 z0 → wL_lawOf_205 post mc ms x3 x4 x5 x7 x8 x9 (fd_old x0 x1 x2 x4) z0 kc ks th mn a1 a2 a3 a4 a5 a6 a7 a8) :
    wL_lawOf_84 post mc ms x0 x1 x2 x3 x4 x5 x7 x8 kc ks th mn a1 a2 a3 a4 a5 a6 a7 a8 :=
  br_c (fun g => fd_102 (Or.inl ⟨rfl, Or.inl g⟩) (H 0)) (fun g => br_c (fun g2 => fd_102 (Or.inl ⟨rfl, Or.inr g2⟩) (H 0)) (fun g2 => fd_102 (Or.inr ⟨rfl, fd_fld g g2⟩) (H 1)))
theorem fd_44N (h : ¬ (fd_ok x0 ∧ fd_ok x1 ∧ fd_ok x2)) (h8 : ∀ j, j < 6 → a8 j = 0) (H : post 1 ()) : wL_lawOf_44 post mc ms x0 x1 x2 x3 x4 x5 0 kc ks 0 0 a1 a2 a3 a4 a5 a6 a7 a8 := by
  refine fd_makeN h (br_t rfl ?_)
  refine br_t rfl (br_t rfl ?_)
  exact fd_84 (fun x9 z0 hR => fd_205E (fd_Rk hR) h8 H)
theorem fd_44F (h0 : fd_ok x0) (h1 : fd_ok x1) (h2 : fd_ok x2) (h5 : ∀ j, a5 j = 0) (H : post 1 ()) : wL_lawOf_44 post mc ms x0 x1 x2 x3 x4 x5 1 kc ks 0 0 a1 a2 a3 a4 a5 a6 a7 a8 := by
  refine fd_make h0 h1 h2 h5 (fun b1 b2 b3 b4 b8 k h3 => br_f (by decide) ?_)
  refine br_t rfl (br_f (by decide) (br_c (fun e => ?_) (fun e => ?_)))
  · exact fd_84 (fun x9 z0 hR => fd_205F k hR (Or.inr ⟨rfl, e⟩) h3 H)
  · exact fd_84 (fun x9 z0 hR => fd_205F k hR (Or.inl ⟨rfl, e⟩) h3 H)
theorem fd_lawOf (H : post 1 ()) : wpL_lawOf post 9 456 () x0 x1 x2 x3 x4 x5 := by
  refine ⟨by decide, by decide, 8, 446, by decide, by decide, ?_⟩
  refine ⟨by decide, by decide, by decide, by decide, by decide, by decide, by decide, by decide, by decide, by decide, by decide, by decide, by decide, by decide, by decide, by decide, ?_⟩
  refine br_c (fun g => fd_44N (fun z => z.1.1 g) (fun _ _ => rfl) H) (fun g0 => ?_)
  refine br_c (fun g => fd_44N (fun z => z.1.2 g) (fun _ _ => rfl) H) (fun g1 => ?_)
  refine br_c (fun g => fd_44N (fun z => z.2.1.1 g) (fun _ _ => rfl) H) (fun g2 => ?_)
  refine br_c (fun g => fd_44N (fun z => z.2.1.2 g) (fun _ _ => rfl) H) (fun g3 => ?_)
  refine br_c (fun g => fd_44N (fun z => z.2.2.1 g) (fun _ _ => rfl) H) (fun g4 => ?_)
  refine br_c (fun g => fd_44N (fun z => z.2.2.2 g) (fun _ _ => rfl) H) (fun g5 => ?_)
  exact fd_44F ⟨g0, g1⟩ ⟨g2, g3⟩ ⟨g4, g5⟩ (fun _ => rfl) H
end
end
section
theorem fd_cell {post : Int32 → Prop} {L : Nat} {xs : Nat → Int32} (hL : L ≤ 6) (i : Nat) (hi : i < 6) (H : ∀ r, post r) {x : Int32} (hx : x = nI i := by rfl) : wpL_cellAt post L xs () x :=
  pk_le L i (fun _ => H 0) (fun z => ⟨pk_in i L z hx, H _⟩) rfl hx
theorem i_vc (xs : Nat → Int32) (L : Nat) (hL : L ≤ 6) : wpL_law (fun r => r = 1) L xs :=
  fd_cell hL 0 (by decide) (fun r1 => fd_cell hL 1 (by decide) (fun r2 => fd_cell hL 2 (by decide) (fun r3 => fd_cell hL 3 (by decide) (fun r4 => fd_cell hL 4 (by decide) (fun r5 => fd_cell hL 5 (by decide) (fun r6 => ⟨9, 456, by decide, by decide, fd_lawOf rfl⟩))))))
end
