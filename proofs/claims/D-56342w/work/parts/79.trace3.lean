set_option maxRecDepth 100000
theorem gcI_gc {g : Nat → Nat} (hg : gok g) (x y : Int) : gcI g x y = gc g x y := by
  by_cases h : (0 ≤ x ∧ x ≤ 23) ∧ 0 ≤ y ∧ y ≤ 23
  · unfold gcI gc gr
    rw [decide_eq_true h.1, decide_eq_true h.2, decide_eq_true h.1.1, if_pos h.2.1]; rfl
  · rw [gc_out hg h]
    unfold gcI
    by_cases h1 : 0 ≤ x ∧ x ≤ 23
    · rw [decide_eq_true h1, decide_eq_false (fun h2 => h ⟨h1, h2⟩)]; rfl
    · rw [decide_eq_false h1]; rfl
/-- what is walked after k lines, from nothing on -/
def wK (g : Nat → Nat) (d : Nat × Nat × Nat) : Nat → Nat → Nat
  | 0 => fun _ => 0
  | k + 1 => setb (wK g d k) (Dk g d k)
theorem bit_0 (e : Nat × Nat × Nat) : ¬ bit (fun _ => 0) e = true := by unfold bit; rw [Nat.zero_testBit]; decide
theorem per_ex {g : Nat → Nat} (hg : gok g) {d : Nat × Nat × Nat} (hd : lok g d) : ∃ m, isPer g d m ∧ 4 ≤ m := by
  have hr := fun k => lok_rng (lok_Dk hg hd k)
  have hp : pcl g (fun _ => 0) := fun e _ h => absurd h (bit_0 e)
  have key : ∀ k, (inW g (fun _ => 0) d k (wK g d k) ∧ fresh g (fun _ => 0) d k ∧ wkc (wK g d k) = k) ∨ ∃ m, isPer g d m ∧ 4 ≤ m := by
    intro k
    induction k with
    | zero =>
      refine Or.inl ⟨fun e _ => ⟨Or.inl, fun z => ?_⟩, fun i hi => absurd hi (by omega), ?_⟩
      · rcases z with z | ⟨i, hi, _⟩
        · exact z
        · omega
      · show sm (fun i => pop 4 0) 625 = 0
        exact sm_zero (fun i _ => rfl)
    | succ k ih =>
      rcases ih with ⟨h1, h2, h3⟩ | h
      · by_cases hb : bit (wK g d k) (Dk g d k) = true
        · obtain ⟨e1, e2, e3⟩ := walk_end hg hd (bit_0 d) hp h2 h1 hb
          exact Or.inr ⟨k, e1, e2⟩
        · refine Or.inl ⟨inW_s h1 (hr k), fresh_s h2 h1 (hr k) hb, ?_⟩
          rw [wK, wc_set (hr k) hb, h3]
      · exact Or.inr h
  rcases key 1251 with ⟨h1, h2, h3⟩ | h
  · have := wc_le (LI_lok hg hd hp h1)
    omega
  · exact h
theorem per_is {g : Nat → Nat} (hg : gok g) {d : Nat × Nat × Nat} (hd : lok g d) : isPer g d (per g d) ∧ 4 ≤ per g d := by
  obtain ⟨m, h1, h2⟩ := per_ex hg hd
  rw [per_eq h1]; exact ⟨h1, h2⟩
theorem fresh_per {g W0 : Nat → Nat} (hg : gok g) {d : Nat × Nat × Nat} (hd : lok g d) {k : Nat} (h : fresh g W0 d k) : k ≤ per g d := by
  obtain ⟨⟨h1, h2, h3⟩, -⟩ := per_is hg hd
  apply Classical.byContradiction
  intro hc
  exact (h (per g d) (by omega)).2 0 (by omega) h2.symm
theorem crnK_mono (g : Nat → Nat) (d : Nat × Nat × Nat) {k m : Nat} (h : k ≤ m) : (crnK g d k).length ≤ (crnK g d m).length := by
  induction m with
  | zero => rw [show k = 0 by omega]; exact Nat.le_refl _
  | succ m ih =>
    by_cases e : k = m + 1
    · rw [e]; exact Nat.le_refl _
    · refine Nat.le_trans (ih (by omega)) ?_
      rw [crnK]; split
      · exact Nat.le_refl _
      · rw [List.length_append]; omega
theorem lS_bd_ : ∀ i : Fin 1852, lS i.val ≤ 5 * i.val + 10 ∧ lC i.val ≤ i.val := by decide +kernel
theorem lS_bd {n : Nat} (h : n ≤ 1851) : lS n ≤ 5 * n + 10 ∧ lC n ≤ n := lS_bd_ ⟨n, by omega⟩
/-- the cost of an outline -/
noncomputable def ocC (g : Nat → Nat) (d : Nat × Nat × Nat) : Nat := 3 + 2 * lC (crn g d).length
noncomputable def ocS (g : Nat → Nat) (d : Nat × Nat × Nat) : Nat := 9 + 2 * lS (crn g d).length
noncomputable def trC (g : Nat → Nat) : List (Nat × Nat × Nat) → Nat
  | [] => 0
  | d :: L => ocC g d + trC g L
noncomputable def trS (g : Nat → Nat) : List (Nat × Nat × Nat) → Nat
  | [] => 0
  | d :: L => ocS g d + trS g L
theorem trC_app (g : Nat → Nat) (L : List (Nat × Nat × Nat)) (d : Nat × Nat × Nat) : trC g (L ++ [d]) = trC g L + ocC g d := by
  induction L with
  | nil => exact Nat.add_comm (ocC g d) 0
  | cons a L ih => rw [List.cons_append, trC, trC, ih]; omega
theorem trS_app (g : Nat → Nat) (L : List (Nat × Nat × Nat)) (d : Nat × Nat × Nat) : trS g (L ++ [d]) = trS g L + ocS g d := by
  induction L with
  | nil => exact Nat.add_comm (ocS g d) 0
  | cons a L ih => rw [List.cons_append, trS, trS, ih]; omega
/-- a search for outlines: what is walked after j lines of the board -/
def TJ (g : Nat → Nat) (j : Nat) (W : Nat → Nat) : Prop := (∃ cx cy bg ar on cn, TI g j W cx cy bg ar on cn) ∧ trC g (outs g j) ≤ 3 * wkc W ∧ trS g (outs g j) ≤ 18 * wkc W
/-- a walk: k lines -/
def LJ (g W0 : Nat → Nat) (d : Nat × Nat × Nat) (k : Nat) (W : Nat → Nat) : Prop := w16 W ∧ inW g W0 d k W ∧ fresh g W0 d k ∧ wkc W = wkc W0 + k
theorem TJ_0 (g : Nat → Nat) : TJ g 0 (fun _ => 0) := ⟨⟨_, _, _, _, _, _, TI_0 (cx := fun _ => 0) (cy := fun _ => 0) (bg := fun _ => 0) (ar := fun _ => 0) (fun _ _ => rfl)⟩, Nat.zero_le _, Nat.zero_le _⟩
theorem TJ_skip {g W : Nat → Nat} {j : Nat} (h : TJ g j W) (hr : rng (lj j)) (hs : ¬ (lok g (lj j) ∧ ¬ bit W (lj j) = true)) : TJ g (j + 1) W ∧ outs g (j + 1) = outs g j := by
  obtain ⟨⟨cx, cy, bg, ar, on, cn, h1⟩, h2, h3⟩ := h
  have e : outs g (j + 1) = outs g j := outs_n (fun z => hs ⟨z.1, fun b => z.2 ((h1.2.2.1 _ hr).mp b)⟩)
  exact ⟨⟨⟨_, _, _, _, _, _, TI_skip h1 hr hs⟩, by rw [e]; exact h2, by rw [e]; exact h3⟩, e⟩
theorem LJ_0 {g W : Nat → Nat} {j : Nat} (h : TJ g j W) (d : Nat × Nat × Nat) : LJ g W d 0 W := by
  obtain ⟨⟨cx, cy, bg, ar, on, cn, h1⟩, -⟩ := h
  obtain ⟨a1, a2, a3, a4, -⟩ := LI_0 h1 d
  exact ⟨a1, a2, a3, a4⟩
theorem LJ_s {g W0 W : Nat → Nat} (hg : gok g) {d e : Nat × Nat × Nat} (hd : lok g d) {k : Nat} (h : LJ g W0 d k W) (he : Dk g d k = e) (hb : ¬ bit W e = true) : LJ g W0 d (k + 1) (setb W e) := by
  subst he
  have hr := lok_rng (lok_Dk hg hd k)
  obtain ⟨h1, h2, h3, h4⟩ := h
  exact ⟨setb_16 h1 hr, inW_s h2 hr, fresh_s h3 h2 hr hb, by rw [wc_set hr hb]; omega⟩
theorem LJ_b {g W0 W : Nat → Nat} (hg : gok g) {d : Nat × Nat × Nat} (hd : lok g d) {k : Nat} (h : LJ g W0 d k W) (hp : pcl g W0) : wkc W0 + k ≤ 1250 := by
  have h1 := wc_le (LI_lok hg hd hp h.2.1)
  rw [h.2.2.2] at h1; exact h1
theorem agr_ex (l : List Int) : ∃ f, agr f l := ⟨fun i => l.getD i 0, fun i hi => by simp [List.getD_eq_getElem?_getD, List.getElem?_eq_getElem hi]⟩
theorem TJ_end {g W0 W : Nat → Nat} (hg : gok g) {j m : Nat} {d : Nat × Nat × Nat} (h : TJ g j W0) (hj : lj j = d) (hd : lok g d) (hb : ¬ bit W0 d = true) (hL : LJ g W0 d m W) (he : bit W (Dk g d m) = true) :
    TJ g (j + 1) W ∧ outs g (j + 1) = outs g j ++ [d] ∧ m = per g d := by
  obtain ⟨⟨cx0, cy0, bg, ar, on, cn0, h1⟩, h2, h3⟩ := h
  obtain ⟨l1, l2, l3, l4⟩ := hL
  obtain ⟨cx, hcx⟩ := agr_ex (lnX (offs g (outs g j) ++ crnK g d m))
  obtain ⟨cy, hcy⟩ := agr_ex (lnY (offs g (outs g j) ++ crnK g d m))
  have hE := TI_end hg h1 hj hd hb ⟨l1, l2, l3, l4, rfl, hcx, hcy⟩ he
  obtain ⟨e1, e2, e3⟩ := walk_end hg hd hb h1.2.1 l3 l2 he
  have ep := per_eq e1
  have hr : rng (lj j) := hj ▸ lok_rng hd
  have eo : outs g (j + 1) = outs g j ++ [d] := by
    have := outs_y (g := g) (j := j) (hj ▸ hd) (fun z => hb (hj ▸ (h1.2.2.1 _ hr).mpr z))
    rw [hj] at this; exact this
  have hcl : (crn g d).length ≤ m := by rw [crn, ep]; exact crnK_le g d m
  have hwl := wc_le (g := g) (fun e a b => (hE.2.1 e a b).1)
  have hbd := lS_bd (n := (crn g d).length) (by omega)
  refine ⟨⟨⟨_, _, _, _, _, _, hE⟩, ?_, ?_⟩, eo, ep.symm⟩
  · rw [eo, trC_app, l4, ocC]; omega
  · rw [eo, trS_app, l4, ocS]; omega
theorem TJ_pcl {g W : Nat → Nat} {j : Nat} (h : TJ g j W) : w16 W ∧ pcl g W ∧ wkc W ≤ 1250 := by
  obtain ⟨⟨cx0, cy0, bg, ar, on, cn0, h1⟩, h2, h3⟩ := h
  exact ⟨h1.1, h1.2.1, wc_le (g := g) (fun e a b => (h1.2.1 e a b).1)⟩
theorem TJ_len {g W : Nat → Nat} {j : Nat} (h : TJ g j W) : (outs g j).length ≤ 312 := by
  obtain ⟨⟨cx0, cy0, bg, ar, on, cn0, h1⟩, h2, h3⟩ := h
  have := TI_b h1
  have := TI_len h1
  omega
theorem TJ_cost {g W : Nat → Nat} {j : Nat} (h : TJ g j W) : trC g (outs g j) ≤ 3750 ∧ trS g (outs g j) ≤ 22500 := by
  have := (TJ_pcl h).2.2
  have := h.2
  omega
/-- corners while the walk goes on: with the line that comes next -/
theorem crnK_next {g : Nat → Nat} {d : Nat × Nat × Nat} {k : Nat} : crnK g d (k + 2) = if ((Dk g d (k + 1)).2.2 : Int) = ((Dk g d k).2.2 : Int) then crnK g d (k + 1) else crnK g d (k + 1) ++ [Dk g d (k + 1)] := rfl
theorem crn_len {g W0 : Nat → Nat} (hg : gok g) {d : Nat × Nat × Nat} (hd : lok g d) {k : Nat} (h : fresh g W0 d k) : (crnK g d k).length ≤ (crn g d).length := crnK_mono g d (fresh_per hg hd h)
/-- a small number's box -/
def cB (w : pb_W) (x : Nat) : Nat := w.2.2.1 (256 + (x + 128))
theorem cB_at {w : pb_W} {s : State} {H : Heap} (hG : pb_G w s H) {x : Nat} (hx : x < 128) : cB w x < w.2.2.2 ∧ Bx w H (cB w x) ((x : Nat) : Int) := by
  obtain ⟨h1, h2⟩ := hG.2.2.2.2.2.2.2.2.2.2.2.2.2.2.1.2.2.2 (x + 128) (by omega)
  refine ⟨h1, ?_⟩
  rw [show (((x + 128 : Nat) : Int) - 128) = ((x : Nat) : Int) by omega] at h2
  exact h2
/-- walked lines as an array of booleans -/
def wkF (W : Nat → Nat) : Nat → Value := fun i => .int (iZ (bI (bit W (lj i))))
theorem lj_idx {x y a : Nat} (hx : x ≤ 24) (ha : a < 4) : lj ((25 * y + x) * 4 + a) = (x, y, a) := by
  unfold lj
  rw [show ((25 * y + x) * 4 + a) / 4 = 25 * y + x by omega, show ((25 * y + x) * 4 + a) % 4 = a by omega, show (25 * y + x) % 25 = x by omega, show (25 * y + x) / 25 = y by omega]
theorem lj_rng {i : Nat} (h : i < 2500) : rng (lj i) := by unfold lj rng; dsimp only; omega
theorem lj_inj {i j : Nat} (h : lj i = lj j) : i = j := by
  unfold lj at h
  have e1 := congrArg (fun z : Nat × Nat × Nat => z.1) h
  have e2 := congrArg (fun z : Nat × Nat × Nat => z.2.1) h
  have e3 := congrArg (fun z : Nat × Nat × Nat => z.2.2) h
  dsimp only at e1 e2 e3
  omega
theorem bit_lj (W : Nat → Nat) (i : Nat) : bit W (lj i) = (W (i / 4)).testBit (i % 4) := by
  unfold bit lj
  dsimp only
  rw [Nat.div_add_mod]
theorem wkF_set (W : Nat → Nat) {x y a : Nat} (hx : x ≤ 24) (ha : a < 4) : updV (wkF W) ((25 * y + x) * 4 + a) (.int (iZ 1)) = wkF (setb W (x, y, a)) := by
  funext i
  have hb : bit (setb W (x, y, a)) (lj i) = (bit W (lj i) || decide (i = (25 * y + x) * 4 + a)) := by
    rw [bit_lj, bit_lj]
    unfold setb va_up
    dsimp only
    by_cases e : i / 4 = 25 * y + x
    · rw [if_pos e, Nat.testBit_or, Nat.one_shiftLeft, Nat.testBit_two_pow, e]
      congr 1
      exact decide_eq_decide.mpr (by omega)
    · rw [if_neg e, decide_eq_false (by omega), Bool.or_false]
  unfold updV wkF
  rw [hb]
  by_cases e : i = (25 * y + x) * 4 + a
  · rw [if_pos e, decide_eq_true e, Bool.or_true]; rfl
  · rw [if_neg e, decide_eq_false e, Bool.or_false]
def stX (a : Nat) : Int := if a = 0 then 1 else if a = 2 then -1 else 0
def stY (a : Nat) : Int := if a = 1 then 1 else if a = 3 then -1 else 0
/-- an outline that is built -/
def Ob (w : pb_W) (H : Heap) (z o xa xe ya ye : Nat) (C : List (Nat × Nat × Nat)) (ar : Int) : Prop :=
  z ≤ o ∧ pb_O w H o 13 [.ref xa, .ref ya, .int (iZ ar)] ∧ Lb w H z xa xe (C.map fun d => cB w d.1) ∧ Lb w H z ya ye (C.map fun d => cB w d.2.1) ∧ xa ≠ ya ∧ (C = [] ∨ xe ≠ ye) ∧ ∀ d ∈ C, d.1 ≤ 24 ∧ d.2.1 ≤ 24
/-- an outline that is read -/
def Og (w : pb_W) (H : Heap) (P : Nat → Prop) (o : Nat) (C : List (Nat × Nat × Nat)) (ar : Int) : Prop :=
  ∃ xa ya, P o ∧ pb_R w H o 13 [.ref xa, .ref ya, .int (iZ ar)] ∧ Lr w H P xa (C.map fun d => cB w d.1) ∧ Lr w H P ya (C.map fun d => cB w d.2.1) ∧ ∀ d ∈ C, d.1 ≤ 24 ∧ d.2.1 ≤ 24
theorem Ob.g {w : pb_W} {H : Heap} {z o xa xe ya ye : Nat} {C : List (Nat × Nat × Nat)} {ar : Int} (h : Ob w H z o xa xe ya ye C ar) (hn : C.length ≤ 1851) : Og w H (fun q => z ≤ q ∧ q < H.size) o C ar := by
  obtain ⟨h1, h2, h3, h4, h5, h6, h7⟩ := h
  exact ⟨xa, ya, ⟨h1, h2.lt⟩, h2.r, h3.r (by rw [List.length_map]; exact hn), h4.r (by rw [List.length_map]; exact hn), h7⟩
theorem Og.mono {w : pb_W} {H : Heap} {P P' : Nat → Prop} {o : Nat} {C : List (Nat × Nat × Nat)} {ar : Int} (h : Og w H P o C ar) (hp : ∀ q, q < H.size → P q → P' q) : Og w H P' o C ar := by
  obtain ⟨xa, ya, h1, h2, h3, h4, h5⟩ := h
  exact ⟨xa, ya, hp _ h2.lt h1, h2, h3.mono hp, h4.mono hp, h5⟩
theorem Og.kept {w : pb_W} {H H1 : Heap} {P : Nat → Prop} {o : Nat} {C : List (Nat × Nat × Nat)} {ar : Int} (h : Og w H P o C ar) (f : pb_F P H H1) : Og w H1 P o C ar := by
  obtain ⟨xa, ya, h1, h2, h3, h4, h5⟩ := h
  exact ⟨xa, ya, h1, h2.kept (f.2 _ h2.lt h1), h3.kept f, h4.kept f, h5⟩
theorem Og.o {w : pb_W} {H : Heap} {P : Nat → Prop} {o : Nat} {C : List (Nat × Nat × Nat)} {ar : Int} (h : Og w H P o C ar) : ∃ fs, pb_R w H o 13 fs ∧ P o := by
  obtain ⟨xa, ya, h1, h2, h3⟩ := h
  exact ⟨_, h2, h1⟩
theorem cB_el {w : pb_W} {s : State} {H : Heap} (hG : pb_G w s H) {L : List Nat} (h : ∀ x ∈ L, x ≤ 24) : ∀ b ∈ L.map (cB w), pb_El w H b := fun b hb => by
  obtain ⟨x, hx, rfl⟩ := List.mem_map.mp hb
  exact (cB_at hG (by have := h x hx; omega)).2.El
theorem cB_elF {w : pb_W} {s : State} {H : Heap} (hG : pb_G w s H) {C : List (Nat × Nat × Nat)} (f : Nat × Nat × Nat → Nat) (h : ∀ d ∈ C, f d ≤ 24) : ∀ b ∈ C.map (fun d => cB w (f d)), pb_El w H b := fun b hb => by
  obtain ⟨x, hx, rfl⟩ := List.mem_map.mp hb
  exact (cB_at hG (by have := h x hx; omega)).2.El
theorem Lb.elt {w : pb_W} {H : Heap} {z a e : Nat} {V : List Nat} (h : Lb w H z a e V) (h0 : w.2.2.1 0 < H.size) : e < H.size := by
  rcases h.2.2 with ⟨-, h3⟩ | ⟨-, -, h5⟩
  · rw [h3]; exact h0
  · exact h5.lt
theorem Lb.ez {w : pb_W} {H : Heap} {z a e : Nat} {V : List Nat} (h : Lb w H z a e V) (hg0 : w.2.2.1 0 < z) : (z ≤ e ↔ V ≠ []) := by
  rcases h.2.2 with ⟨h1, h3⟩ | ⟨h1, h2, h5⟩
  · exact ⟨fun h9 => by omega, fun h9 => absurd h1 h9⟩
  · exact ⟨fun _ => h1, fun _ => h2⟩
theorem Ob.ne {w : pb_W} {H : Heap} {z o xa xe ya ye : Nat} {C : List (Nat × Nat × Nat)} {ar : Int} (h : Ob w H z o xa xe ya ye C ar) (hI : pb_I w) (h0 : pb_Ty w H (w.2.2.1 0) 23) (hg0 : w.2.2.1 0 < z) :
    o ≠ xa ∧ o ≠ xe ∧ o ≠ ya ∧ o ≠ ye ∧ xa ≠ ye ∧ ya ≠ xe ∧ (z ≤ xe → xe ≠ ye) ∧ (z ≤ ye → xe ≠ ye) := by
  obtain ⟨h1, hO, hX, hY, h5, h6, h7⟩ := h
  have tO := hO.r.ty.1
  have ta := hX.2.1.r.ty.1
  have tb := hY.2.1.r.ty.1
  have te := hX.ty h0
  have tf := hY.ty h0
  refine ⟨tO.ne hI ta (by decide) (by decide) (by decide), tO.ne hI te (by decide) (by decide) (by decide), tO.ne hI tb (by decide) (by decide) (by decide), tO.ne hI tf (by decide) (by decide) (by decide), ta.ne hI tf (by decide) (by decide) (by decide), tb.ne hI te (by decide) (by decide) (by decide), fun h9 => ?_, fun h9 => ?_⟩
  · rcases h6 with e | e
    · exact absurd (by rw [e]; rfl) ((hX.ez hg0).mp h9)
    · exact e
  · rcases h6 with e | e
    · exact absurd (by rw [e]; rfl) ((hY.ez hg0).mp h9)
    · exact e
