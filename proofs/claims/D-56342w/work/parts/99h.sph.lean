set_option maxRecDepth 100000
/-! PLAIN LAWS: as many outlines with a negative area as holes -/
section HOL2
variable {g : Nat → Nat}
theorem outs_lok (j : Nat) : ∀ d ∈ outs g j, lok g d := by
  induction j with
  | zero => intro d hd; cases hd
  | succ j ih =>
    intro d hd
    by_cases h : lok g (lj j) ∧ ¬ ∃ d, d ∈ outs g j ∧ ∃ i, i < per g d ∧ Dk g d i = lj j
    · rw [outs_y h.1 h.2] at hd
      rcases List.mem_append.mp hd with z | z
      · exact ih d z
      · rw [List.mem_singleton.mp z]; exact h.1
    · rw [outs_n h] at hd; exact ih d hd
theorem outs_cov (hg : gok g) (j : Nat) : ∀ k, k < j → lok g (lj k) → ∃ d ∈ outs g j, inL g d (lj k) := by
  induction j with
  | zero => intro k hk; omega
  | succ j ih =>
    intro k hk hl
    by_cases h : lok g (lj j) ∧ ¬ ∃ d, d ∈ outs g j ∧ ∃ i, i < per g d ∧ Dk g d i = lj j
    · rw [outs_y h.1 h.2]
      by_cases e : k = j
      · subst e
        refine ⟨lj k, List.mem_append_right _ (List.mem_singleton.mpr rfl), 0, ?_, rfl⟩
        have := (per_is hg h.1).2
        omega
      · obtain ⟨d, d1, d2⟩ := ih k (by omega) hl
        exact ⟨d, List.mem_append_left _ d1, d2⟩
    · rw [outs_n h]
      by_cases e : k = j
      · subst e
        apply Classical.byContradiction
        intro z
        exact h ⟨hl, fun ⟨d, d1, d2⟩ => z ⟨d, d1, d2⟩⟩
      · exact ih k (by omega) hl
theorem outs_pw (j : Nat) : (outs g j).Pairwise (fun d d' => ¬ inL g d d') := by
  induction j with
  | zero => exact List.Pairwise.nil
  | succ j ih =>
    by_cases h : lok g (lj j) ∧ ¬ ∃ d, d ∈ outs g j ∧ ∃ i, i < per g d ∧ Dk g d i = lj j
    · rw [outs_y h.1 h.2, List.pairwise_append]
      refine ⟨ih, List.pairwise_singleton _ _, fun d hd d' hd' => ?_⟩
      rw [List.mem_singleton.mp hd']
      exact fun z => h.2 ⟨d, hd, z⟩
    · rw [outs_n h]; exact ih
theorem inL_back (hg : gok g) {d d' : Nat × Nat × Nat} (hd : lok g d) (hd' : lok g d') (i : Nat) (h : inL g d (Dk g d' i)) : inL g d d' := by
  induction i with
  | zero => exact h
  | succ i ih => exact ih ((inL_nx hg hd (lok_Dk hg hd' i)).mpr h)
theorem inL_dis (hg : gok g) {d d' e : Nat × Nat × Nat} (hd : lok g d) (hd' : lok g d') (h : ¬ inL g d d') (h1 : inL g d e) (h2 : inL g d' e) : False := by
  obtain ⟨i, hi, rfl⟩ := h2
  exact h (inL_back hg hd hd' i h1)
/-- a line of another outline: both sides have the same winding number -/
theorem wnd_other (hg : gok g) {d e : Nat × Nat × Nat} (hd : lok g d) (he : lok g e) (h : ¬ inL g d e) : wnd g d (lcl e).1 (lcl e).2 = wnd g d (rcl e).1 (rcl e).2 := by
  obtain ⟨x, y, a⟩ := e
  have ha : a < 4 := he.2.2.1
  obtain ⟨l1, l2⟩ := lok_lr he
  have hadj : adj false (lcl (x, y, a)) (rcl (x, y, a)) := by
    obtain ⟨o1, o2⟩ := out_cells x y ha
    rw [o1, o2]
    have := cpt_adj ((x : Nat) : Int) ((y : Nat) : Int) (k := (a + 3) % 4) (by omega)
    rw [show ((a + 3) % 4 + 1) % 4 = a by omega] at this
    exact adj_sym this
  refine wnd_adj hg hd hadj ?_
  rintro ⟨e9, h1, h2⟩
  have hk := inL_lok hg hd h1
  obtain ⟨m1, m2⟩ := lok_lr hk
  rcases h2 with ⟨c1, c2⟩ | ⟨c1, c2⟩
  · -- the same line
    have : e9 = (x, y, a) := by
      obtain ⟨x9, y9, a9⟩ := e9
      have ha9 : a9 < 4 := hk.2.2.1
      have b0 : a = 0 ∨ a = 1 ∨ a = 2 ∨ a = 3 := by omega
      have b9 : a9 = 0 ∨ a9 = 1 ∨ a9 = 2 ∨ a9 = 3 := by omega
      have p1 := congrArg (fun z : Int × Int => z.1) c1
      have p2 := congrArg (fun z : Int × Int => z.2) c1
      have p3 := congrArg (fun z : Int × Int => z.1) c2
      have p4 := congrArg (fun z : Int × Int => z.2) c2
      rcases b0 with rfl | rfl | rfl | rfl <;> rcases b9 with rfl | rfl | rfl | rfl <;> simp only [lcl, rcl] at p1 p2 p3 p4 <;> first | (exfalso; omega) | (rw [show x9 = x by omega, show y9 = y by omega])
    rw [this] at h1; exact h h1
  · rw [c1] at m1; exact l2 m1
/-- two outlines around the same hole are the same -/
theorem neg_inj (hg : gok g) {d d' : Nat × Nat × Nat} (hd : lok g d) (hd' : lok g d') (h1 : ¬ inL g d d') (h2 : ¬ inL g d' d) (hw : wnd g d (lcl d).1 (lcl d).2 = 0) (hw' : wnd g d' (lcl d').1 (lcl d').2 = 0) (hc : cn (OU g) true (rcl d) (rcl d')) : False := by
  have self : ∀ d : Nat × Nat × Nat, lok g d → inL g d d := fun d hd => ⟨0, by have := (per_is hg hd).2; omega, rfl⟩
  have w1 := lines_w hg hd (self d hd)
  have w2 := lines_w hg hd' (self d' hd')
  rw [hw] at w1
  rw [hw'] at w2
  have o1 := wnd_O hg hd hc
  have o2 := wnd_O hg hd' hc
  have e1 := wnd_other hg hd hd' h1
  have e2 := wnd_other hg hd' hd h2
  -- on the left of each the other one's winding number is -1
  have r1 : ∀ e, inL g d' e → wnd g d (lcl e).1 (lcl e).2 = -1 := by
    rintro e ⟨i, hi, rfl⟩
    have := wnd_T hg hd (Dk_cells hg hd' i).1
    omega
  have r2 : ∀ e, inL g d e → wnd g d' (lcl e).1 (lcl e).2 = -1 := by
    rintro e ⟨i, hi, rfl⟩
    have := wnd_T hg hd' (Dk_cells hg hd i).1
    omega
  have key : ∀ y : Int, ∀ n : Nat, wnd g d (24 - n) y = 0 ∧ wnd g d' (24 - n) y = 0 := by
    intro y n
    induction n with
    | zero => exact ⟨wnd_far hg hd _ y (Or.inl (by omega)), wnd_far hg hd' _ y (Or.inl (by omega))⟩
    | succ n ih =>
      obtain ⟨i1, i2⟩ := ih
      rw [show (24 : Int) - ((n + 1 : Nat) : Int) = (24 - (n : Int)) - 1 by omega]
      constructor
      · apply Classical.byContradiction
        intro z
        obtain ⟨e, a1, a2⟩ := wnd_hx (g := g) (d := d) (x := 24 - (n : Int)) (y := y) (by rw [i1]; exact z)
        have hl := lines_w hg hd a1
        rw [hw] at hl
        have hr := r2 e a1
        rcases a2 with ⟨b1, b2⟩ | ⟨b1, b2⟩
        · rw [b1, b2] at hl
          dsimp only at hl
          omega
        · rw [b1] at hr
          dsimp only at hr
          omega
      · apply Classical.byContradiction
        intro z
        obtain ⟨e, a1, a2⟩ := wnd_hx (g := g) (d := d') (x := 24 - (n : Int)) (y := y) (by rw [i2]; exact z)
        have hl := lines_w hg hd' a1
        rw [hw'] at hl
        have hr := r1 e a1
        rcases a2 with ⟨b1, b2⟩ | ⟨b1, b2⟩
        · rw [b1, b2] at hl
          dsimp only at hl
          omega
        · rw [b1] at hr
          dsimp only at hr
          omega
  by_cases c : 24 ≤ (rcl d).1
  · have := wnd_far hg hd (rcl d).1 (rcl d).2 (Or.inl c); omega
  · have := (key (rcl d).2 (24 - (rcl d).1).toNat).1
    rw [show (24 : Int) - (((24 - (rcl d).1).toNat : Nat) : Int) = (rcl d).1 by omega] at this
    omega
/-- around each hole goes an outline with a negative area -/
theorem hole_ex (hg : gok g) {p : Int × Int} (hp : OU g p) (hn : ¬ cn (OU g) true (-1, -1) p) : ∃ d ∈ outs g 2500, arA g d < 0 ∧ cn (OU g) true (rcl d) p := by
  have inb : ∀ q, cn (OU g) true p q → (0 ≤ q.1 ∧ q.1 ≤ 23) ∧ 0 ≤ q.2 ∧ q.2 ≤ 23 := by
    intro q hq
    have h1 := (out_law hg q).mpr ⟨(cn_in hq).2, fun z => hn (cn_tr z (cn_sy hq))⟩
    exact ((ot_bit q).mp h1.1).1
  -- the topmost cell
  have top : ∃ q, cn (OU g) true p q ∧ ∀ r, cn (OU g) true p r → r.2 ≤ q.2 := by
    have key : ∀ n : Nat, (∃ q, cn (OU g) true p q ∧ 23 - (n : Int) ≤ q.2) → ∃ q, cn (OU g) true p q ∧ ∀ r, cn (OU g) true p r → r.2 ≤ q.2 := by
      intro n
      induction n with
      | zero =>
        rintro ⟨q, q1, q2⟩
        exact ⟨q, q1, fun r hr => by have := (inb r hr).2; omega⟩
      | succ n ih =>
        rintro ⟨q, q1, q2⟩
        by_cases c : ∃ q, cn (OU g) true p q ∧ 23 - (n : Int) ≤ q.2
        · exact ih c
        · refine ⟨q, q1, fun r hr => ?_⟩
          have : ¬ 23 - (n : Int) ≤ r.2 := fun z => c ⟨r, hr, z⟩
          omega
    have := (inb p (cn_rf hp)).2
    exact key 23 ⟨p, cn_rf hp, by omega⟩
  obtain ⟨⟨x, y⟩, q1, q2⟩ := top
  have hb := inb _ q1
  dsimp only at hb
  have hq := ((gout_bit hg _).mp (cn_in q1).2).2
  have habove : gT g (x, y + 1) := by
    apply Classical.byContradiction
    intro z
    have hU : OU g (x, y + 1) := (gout_bit hg _).mpr ⟨by dsimp only; omega, z⟩
    have := q2 _ (cn_st q1 hU ⟨by dsimp only; omega, by dsimp only; omega, Or.inl rfl⟩)
    dsimp only at this
    omega
  have hb2 := gT_in hg habove
  dsimp only at hb2
  -- the line between
  have hl : lok g (x.toNat, (y + 1).toNat, 0) := by
    refine ⟨by dsimp only; omega, by dsimp only; omega, (show (0 : Nat) < 4 by decide), ?_⟩
    show (gc g ((x.toNat : Nat) : Int) (((y + 1).toNat : Nat) : Int) && !gc g ((x.toNat : Nat) : Int) ((((y + 1).toNat : Nat) : Int) - 1)) = true
    rw [show ((x.toNat : Nat) : Int) = x by omega, show (((y + 1).toNat : Nat) : Int) = y + 1 by omega, Int.add_sub_cancel]
    have e1 : gc g x (y + 1) = true := habove
    have e2 : gc g x y = false := by simpa [gT] using hq
    rw [e1, e2]; rfl
  have hj : lj ((25 * (y + 1).toNat + x.toNat) * 4 + 0) = (x.toNat, (y + 1).toNat, 0) := lj_idx (by omega) (by decide)
  obtain ⟨d, d1, d2⟩ := outs_cov (g := g) hg 2500 ((25 * (y + 1).toNat + x.toNat) * 4 + 0) (by omega) (by rw [hj]; exact hl)
  rw [hj] at d2
  have hd := outs_lok _ d d1
  have hrq : rcl (x.toNat, (y + 1).toNat, 0) = (x, y) := Prod.ext (by show ((x.toNat : Nat) : Int) = x; omega) (by show (((y + 1).toNat : Nat) : Int) - 1 = y; omega)
  have hlq : lcl (x.toNat, (y + 1).toNat, 0) = (x, y + 1) := Prod.ext (by show ((x.toNat : Nat) : Int) = x; omega) (by show (((y + 1).toNat : Nat) : Int) = y + 1; omega)
  have hcn : cn (OU g) true (rcl d) (x, y) := by
    obtain ⟨i, hi, he⟩ := d2
    have := (Dk_cells hg hd i).2
    rw [he, hrq] at this; exact this
  have hlw := lines_w hg hd d2
  rw [hrq, hlq] at hlw
  dsimp only at hlw
  obtain ⟨t1, t2⟩ := wnd_two hg hd
  rcases t1 with t1 | t1
  · -- then above would be a cell of the same hole
    exfalso
    rw [t1] at hlw
    have key : ∀ n : Nat, wnd g d x (y + 1 + n) = 1 := by
      intro n
      induction n with
      | zero => rw [show y + 1 + ((0 : Nat) : Int) = y + 1 by omega]; omega
      | succ n ih =>
        rw [show y + 1 + ((n + 1 : Nat) : Int) = y + 1 + n + 1 by omega]
        apply Classical.byContradiction
        intro z
        obtain ⟨e, a1, a2⟩ := wnd_hy hg hd (x := x) (y := y + 1 + n + 1) (by rw [Int.add_sub_cancel, ih]; exact z)
        rw [Int.add_sub_cancel] at a2
        have hle := lines_w hg hd a1
        rw [t1] at hle
        rcases a2 with ⟨b1, b2⟩ | ⟨b1, b2⟩
        · rw [b1] at hle
          dsimp only at hle
          exact z hle.1
        · -- the right side of e lies in the hole, above
          obtain ⟨i, hi, he⟩ := a1
          have h9 := (Dk_cells hg hd i).2
          rw [he, b2] at h9
          have := q2 _ (cn_tr q1 (cn_tr (cn_sy hcn) h9))
          dsimp only at this
          omega
    have := key 24
    have h0 := wnd_far hg hd x (y + 1 + ((24 : Nat) : Int)) (Or.inr (Or.inl (by omega)))
    omega
  · refine ⟨d, d1, neg_area hg hd t1 (x := x.toNat) (y := y.toNat) (by omega) (by omega) ?_, cn_tr hcn (cn_sy q1)⟩
    rw [show ((x.toNat : Nat) : Int) = x by omega, show ((y.toNat : Nat) : Int) = y by omega]
    omega
/-- the outlines with a negative area -/
noncomputable def negL (g : Nat → Nat) : List (Nat × Nat × Nat) := (outs g 2500).filter (fun d => decide (arA g d < 0))
theorem neg_NC (hg : gok g) : NC (fun p => OU g p ∧ ¬ cn (OU g) true (-1, -1) p) true (negL g).length := by
  have mem : ∀ d, d ∈ negL g ↔ d ∈ outs g 2500 ∧ arA g d < 0 := fun d => by
    unfold negL
    rw [List.mem_filter, decide_eq_true_eq]
  have hU0 : OU g (-1, -1) := (gout_bit hg _).mpr ⟨by decide, fun z => by have := gT_in hg z; dsimp only at this; omega⟩
  have hin : ∀ d, d ∈ negL g → OU g (rcl d) ∧ ¬ cn (OU g) true (-1, -1) (rcl d) := by
    intro d hd
    obtain ⟨h1, h2⟩ := (mem d).mp hd
    have hk := outs_lok _ d h1
    refine ⟨rcl_in hg hk, fun z => ?_⟩
    have w1 := wnd_O hg hk z
    have w2 := lines_w hg hk (e := d) ⟨0, by have := (per_is hg hk).2; omega, rfl⟩
    have w3 := area_neg hg hk h2
    have w4 := wnd_far hg hk (-1) (-1) (Or.inr (Or.inr (by decide)))
    dsimp only at w1
    omega
  have hcomp : ∀ x, (OU g x ∧ ¬ cn (OU g) true (-1, -1) x) ↔ OU g x ∧ ¬ cn (OU g) true (-1, -1) x := fun x => Iff.rfl
  refine ⟨(negL g).map rcl, by rw [List.length_map], fun p hp => ?_, ?_, fun p hp => ?_⟩
  · obtain ⟨d, d1, rfl⟩ := List.mem_map.mp hp
    exact hin d d1
  · rw [List.pairwise_map]
    have pw : (negL g).Pairwise (fun d d' => ¬ inL g d d') := by
      unfold negL
      exact (outs_pw (g := g) 2500).filter _
    refine pw.imp_of_mem (fun {d d'} hd hd' h z => ?_)
    obtain ⟨h1, h2⟩ := (mem d).mp hd
    obtain ⟨h3, h4⟩ := (mem d').mp hd'
    have hk := outs_lok _ d h1
    have hk' := outs_lok _ d' h3
    have z2 := (cn_rest hcomp (hin d hd)).mp z
    exact neg_inj hg hk hk' h (fun w => inL_dis hg hk hk' h ⟨0, by have := (per_is hg hk).2; omega, rfl⟩ w) (area_neg hg hk h2) (area_neg hg hk' h4) z2
  · obtain ⟨d, d1, d2, d3⟩ := hole_ex hg hp.1 hp.2
    have hd := (mem d).mpr ⟨d1, d2⟩
    exact ⟨rcl d, List.mem_map.mpr ⟨d, hd, rfl⟩, (cn_rest hcomp (hin d hd)).mpr d3⟩
theorem holeO_law (hg : gok g) {n : Nat} (h : PCr true n (gout g)) : n = (negL g).length + 1 := by
  have h1 := PC_NC n (gout g) (fun y _ => gout_lt g y) h
  have hU : M26 (gout g) (-1, -1) := (gout_bit hg _).mpr ⟨by decide, fun z => by have := gT_in hg z; dsimp only at this; omega⟩
  exact NC_u h1 (NC_step (c := true) hU (fun x => Iff.rfl) (neg_NC hg))
end HOL2
