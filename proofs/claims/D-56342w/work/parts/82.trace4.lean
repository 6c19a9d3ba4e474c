set_option maxRecDepth 100000
theorem Ob.upU {w : pb_W} {H H1 : Heap} {z o xa xe ya ye b : Nat} {C : List (Nat × Nat × Nat)} {ar : Int} (hI : pb_I w) (h : Ob w H z o xa xe ya ye C ar) (h0 : pb_Ty w H (w.2.2.1 0) 23) (hb : pb_Ty w H b 20) (u : pb_Up b H H1) : Ob w H1 z o xa xe ya ye C ar := by
  obtain ⟨h1, h2, h3, h4, h5⟩ := h
  exact ⟨h1, h2.kept (u.2 _ (h2.r.ty.1.ne hI hb (by decide) (by decide) (by decide))), h3.up hI h0 hb (by decide) u, h4.up hI h0 hb (by decide) u, h5⟩
theorem Ob.upO {w : pb_W} {H H1 : Heap} {z o xa xe ya ye : Nat} {C : List (Nat × Nat × Nat)} {ar ar1 : Int} (hI : pb_I w) (h : Ob w H z o xa xe ya ye C ar) (h0 : pb_Ty w H (w.2.2.1 0) 23) (hO : pb_O w H1 o 13 [.ref xa, .ref ya, .int (iZ ar1)]) (u : pb_Up o H H1) : Ob w H1 z o xa xe ya ye C ar1 := by
  obtain ⟨h1, h2, h3, h4, h5⟩ := h
  exact ⟨h1, hO, h3.up hI h0 h2.r.ty.1 (by decide) u, h4.up hI h0 h2.r.ty.1 (by decide) u, h5⟩
theorem stX_nxx {g : Nat → Nat} (hg : gok g) {x y a : Nat} (h : lok g (x, y, a)) : (x : Int) + stX a = ((nxx x a : Nat) : Int) := by
  have h1 := (lok_pos hg h).1
  unfold stX nxx
  split
  · omega
  · split
    · next e => have := h1 e; omega
    · omega
theorem stY_nxy {g : Nat → Nat} (hg : gok g) {x y a : Nat} (h : lok g (x, y, a)) : (y : Int) + stY a = ((nxy y a : Nat) : Int) := by
  have h1 := (lok_pos hg h).2
  unfold stY nxy
  split
  · omega
  · split
    · next e => have := h1 e; omega
    · omega
theorem Dk_next {g : Nat → Nat} {d : Nat × Nat × Nat} {k x y a : Nat} (he : Dk g d k = (x, y, a)) : Dk g d (k + 1) = (nxx x a, nxy y a, nxw g (nxx x a) (nxy y a) a) := by rw [Dk, he]; rfl
theorem ar_step {g : Nat → Nat} {d : Nat × Nat × Nat} {k x y a : Nat} (he : Dk g d k = (x, y, a)) : arK g d (k + 1) = arK g d k + (x : Int) * stY a := by
  rw [arK, he]
  unfold stY
  dsimp only
  split
  · rw [Int.mul_one]
  · split
    · rw [Int.mul_neg, Int.mul_one]
    · rw [Int.mul_zero]
/-- the corners at the head of a walk's loop -/
def crL (g W : Nat → Nat) (d : Nat × Nat × Nat) (k : Nat) (e : Nat × Nat × Nat) : List (Nat × Nat × Nat) := if bit W e = true then crnK g d k else crnK g d (k + 1)
theorem crL_n {g W : Nat → Nat} {d e : Nat × Nat × Nat} {k : Nat} (he : Dk g d k = e) {e2 : Nat × Nat × Nat} (he2 : Dk g d (k + 1) = e2) (h : e2.2.2 = e.2.2 ∨ bit W e2 = true) : crnK g d (k + 1) = crL g W d (k + 1) e2 := by
  unfold crL
  split
  · rfl
  · next hb =>
    rcases h with h | h
    · rw [crnK_next, he, he2, if_pos (by rw [h])]
    · exact absurd h hb
theorem crL_c {g W : Nat → Nat} {d e : Nat × Nat × Nat} {k : Nat} (he : Dk g d k = e) {e2 : Nat × Nat × Nat} (he2 : Dk g d (k + 1) = e2) (h : ¬ e2.2.2 = e.2.2) (hb : ¬ bit W e2 = true) : crnK g d (k + 1) ++ [e2] = crL g W d (k + 1) e2 := by
  unfold crL
  rw [if_neg hb, crnK_next, he, he2, if_neg (by omega)]
theorem crL_len {g W0 W : Nat → Nat} (hg : gok g) {d e : Nat × Nat × Nat} (hd : lok g d) {k : Nat} (h : LJ g W0 d k W) (he : Dk g d k = e) : (crL g W d k e).length ≤ (crn g d).length := by
  unfold crL
  subst he
  split
  · exact crn_len hg hd h.2.2.1
  · next hb => exact crn_len hg hd (fresh_s h.2.2.1 h.2.1 (lok_rng (lok_Dk hg hd k)) hb)
theorem crL_0 {g W : Nat → Nat} {d : Nat × Nat × Nat} (hb : ¬ bit W d = true) : [d] = crL g W d 0 d := by
  unfold crL
  rw [if_neg hb, crnK, if_neg (by show ¬ ((d.2.2 : Nat) : Int) = -1; omega)]
  rfl
/-- a walk's end -/
theorem LJ_end {g W0 W : Nat → Nat} (hg : gok g) {d : Nat × Nat × Nat} (hd : lok g d) {k : Nat} (h0 : ¬ bit W0 d = true) (hp : pcl g W0) (h : LJ g W0 d k W) (he : bit W (Dk g d k) = true) : k = per g d := by
  obtain ⟨e1, e2, e3⟩ := walk_end hg hd h0 hp h.2.2.1 h.2.1 he
  exact (per_eq e1).symm
theorem crn_lt {g W0 : Nat → Nat} (hg : gok g) {d : Nat × Nat × Nat} (hd : lok g d) (hp : pcl g W0) (h0 : ¬ bit W0 d = true) (hw : w16 W0) : (crn g d).length ≤ 1250 ∧ per g d ≤ 1250 := by
  have key : ∀ k, k ≤ per g d → ∃ W, LJ g W0 d k W := by
    intro k
    induction k with
    | zero =>
      intro _
      refine ⟨W0, hw, fun e _ => ⟨Or.inl, fun z => ?_⟩, fun i hi => absurd hi (by omega), rfl⟩
      rcases z with z | ⟨i, hi, _⟩
      · exact z
      · omega
    | succ k ih =>
      intro hk
      obtain ⟨W, hW⟩ := ih (by omega)
      by_cases hb : bit W (Dk g d k) = true
      · have := LJ_end hg hd h0 hp hW hb; omega
      · exact ⟨_, LJ_s hg hd hW rfl hb⟩
  obtain ⟨W, hW⟩ := key _ (Nat.le_refl _)
  have h1 := LJ_b hg hd hW hp
  have h2 := crnK_le g d (per g d)
  exact ⟨by unfold crn; omega, by omega⟩
theorem LJ_per {g W0 : Nat → Nat} (hg : gok g) {d : Nat × Nat × Nat} (hd : lok g d) (hp : pcl g W0) (h0 : ¬ bit W0 d = true) (hw : w16 W0) : ∃ W, LJ g W0 d (per g d) W ∧ bit W (Dk g d (per g d)) = true := by
  have key : ∀ k, k ≤ per g d → ∃ W, LJ g W0 d k W := by
    intro k
    induction k with
    | zero =>
      intro _
      refine ⟨W0, hw, fun e _ => ⟨Or.inl, fun z => ?_⟩, fun i hi => absurd hi (by omega), rfl⟩
      rcases z with z | ⟨i, hi, _⟩
      · exact z
      · omega
    | succ k ih =>
      intro hk
      obtain ⟨W, hW⟩ := ih (by omega)
      by_cases hb : bit W (Dk g d k) = true
      · have := LJ_end hg hd h0 hp hW hb; omega
      · exact ⟨_, LJ_s hg hd hW rfl hb⟩
  obtain ⟨W, hW⟩ := key _ (Nat.le_refl _)
  refine ⟨W, hW, ?_⟩
  obtain ⟨⟨p1, p2, p3⟩, p4⟩ := per_is hg hd
  rw [p2]
  exact (hW.2.1 d (lok_rng hd)).mpr (Or.inr ⟨0, by omega, rfl⟩)
theorem TJ_ex {g : Nat → Nat} (hg : gok g) : ∀ j, j ≤ 2500 → ∃ W, TJ g j W := by
  intro j
  induction j with
  | zero => intro _; exact ⟨_, TJ_0 g⟩
  | succ j ih =>
    intro hj
    obtain ⟨W, hW⟩ := ih (by omega)
    have hr := lj_rng (i := j) (by omega)
    by_cases hs : lok g (lj j) ∧ ¬ bit W (lj j) = true
    · obtain ⟨w1, w2, w3⟩ := TJ_pcl hW
      obtain ⟨W', h1, h2⟩ := LJ_per hg hs.1 w2 hs.2 w1
      exact ⟨W', (TJ_end hg hW rfl hs.1 hs.2 h1 h2).1⟩
    · exact ⟨W, (TJ_skip hW hr hs).1⟩
/-- what the next outline costs -/
theorem TJ_next {g W : Nat → Nat} (hg : gok g) {j : Nat} (h : TJ g j W) (hj : j < 2500) (hk : lok g (lj j)) (hb : ¬ bit W (lj j) = true) : outs g (j + 1) = outs g j ++ [lj j] ∧ trC g (outs g j) + ocC g (lj j) ≤ 3750 ∧ trS g (outs g j) + ocS g (lj j) ≤ 22500 ∧ (outs g j).length + 1 ≤ 312 := by
  have e : outs g (j + 1) = outs g j ++ [lj j] := by
    obtain ⟨⟨cx, cy, bg, ar, on, cn, h1⟩, -⟩ := h
    exact outs_y hk (fun z => hb ((h1.2.2.1 _ (lj_rng hj)).mpr z))
  obtain ⟨W1, hW1⟩ := TJ_ex hg (j + 1) (by omega)
  have h2 := TJ_cost hW1
  have h3 := TJ_len hW1
  rw [e, trC_app, trS_app] at h2
  rw [e, List.length_append, List.length_singleton] at h3
  exact ⟨e, h2.1, h2.2, h3⟩
/-- outlines that are read -/
def OL (w : pb_W) (H : Heap) (P : Nat → Prop) (g : Nat → Nat) (V : List Nat) (D : List (Nat × Nat × Nat)) : Prop := V.length = D.length ∧ ∀ i d, D[i]? = some d → Og w H P (nV V i) (crn g d) (arA g d)
theorem OL.kept {w : pb_W} {H H1 : Heap} {P : Nat → Prop} {g : Nat → Nat} {V : List Nat} {D : List (Nat × Nat × Nat)} (h : OL w H P g V D) (f : pb_F P H H1) : OL w H1 P g V D := ⟨h.1, fun i d hd => (h.2 i d hd).kept f⟩
theorem OL.mono {w : pb_W} {H : Heap} {P P' : Nat → Prop} {g : Nat → Nat} {V : List Nat} {D : List (Nat × Nat × Nat)} (h : OL w H P g V D) (hp : ∀ q, q < H.size → P q → P' q) : OL w H P' g V D := ⟨h.1, fun i d hd => (h.2 i d hd).mono hp⟩
theorem OL.nil (w : pb_W) (H : Heap) (P : Nat → Prop) (g : Nat → Nat) : OL w H P g [] [] := ⟨rfl, fun i d hd => by cases hd⟩
theorem OL.app {w : pb_W} {H : Heap} {P : Nat → Prop} {g : Nat → Nat} {V : List Nat} {D : List (Nat × Nat × Nat)} {o : Nat} {d : Nat × Nat × Nat} (h : OL w H P g V D) (ho : Og w H P o (crn g d) (arA g d)) : OL w H P g (V ++ [o]) (D ++ [d]) := by
  refine ⟨by rw [List.length_append, List.length_append, h.1]; rfl, fun i d9 hd => ?_⟩
  by_cases hi : i < D.length
  · rw [List.getElem?_append_left hi] at hd
    rw [nV_app (by rw [h.1]; exact hi)]
    exact h.2 i d9 hd
  · have hl : i < (D ++ [d]).length := (List.getElem?_eq_some_iff.mp hd).1
    rw [List.length_append, List.length_singleton] at hl
    have e : i = D.length := by omega
    subst e
    rw [List.getElem?_append_right (Nat.le_refl _), Nat.sub_self] at hd
    rw [← h.1, nV_last]
    have : d = d9 := Option.some.inj hd
    rw [← this]; exact ho
theorem OL.el {w : pb_W} {H : Heap} {P : Nat → Prop} {g : Nat → Nat} {V : List Nat} {D : List (Nat × Nat × Nat)} (h : OL w H P g V D) : ∀ x ∈ V, pb_El w H x := fun x hx => by
  obtain ⟨i, hi, rfl⟩ := nV_ex hx
  obtain ⟨fs, h1, h2⟩ := (h.2 i _ (List.getElem?_eq_getElem (by rw [← h.1]; exact hi))).o
  exact ⟨13, _, _, h1, rfl, q2149⟩
/-- a tracer that has found all: its list of outlines -/
def Tq (w : pb_W) (H : Heap) (P : Nat → Prop) (t : Nat) (g : Nat → Nat) : Prop := ∃ (c u ol : Nat) (V : List Nat), P t ∧ pb_R w H t 12 [.ref c, .ref u, .ref ol] ∧ Lr w H P ol V ∧ OL w H P g V (outs g 2500)
