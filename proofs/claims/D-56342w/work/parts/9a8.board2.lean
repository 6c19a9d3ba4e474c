set_option maxRecDepth 100000
/-! the board, written -/
def gup (G : Nat → Nat → Nat) (t : Nat) (g : Nat → Nat) : Nat → Nat → Nat := fun i => if i = t then g else G i
def BP (w : pb_W) (H : Heap) (M : Nat → Prop) (b sl e : Nat) (pv : Value) (V : List Nat) (G : Nat → Nat → Nat) : Prop :=
  pb_O w H b 0 [.ref sl, pv] ∧ w.2.2.2 ≤ b ∧ Lb w H w.2.2.2 sl e V ∧ V.length = 8 ∧ ∀ i, i < 8 → Rq w H (fun q => q ≠ b ∧ q ≠ sl ∧ q ≠ e ∧ M q) (nV V i) (G i)
theorem BP.a {w : pb_W} {H : Heap} {M : Nat → Prop} {b sl e : Nat} {pv : Value} {V : List Nat} {G : Nat → Nat → Nat} (h : BP w H M b sl e pv V G) : w.2.2.2 ≤ e ∧ e < H.size ∧ b < H.size ∧ sl < H.size ∧ w.2.2.2 ≤ sl := by
  obtain ⟨h1, h2, ⟨h3, h4, h5⟩, h6, h7⟩ := h
  rcases h5 with h5 | ⟨h5, h8, h9⟩
  · rw [h5.1] at h6; cases h6
  · exact ⟨h8, h9.lt, h1.lt, h4.lt, h3⟩
theorem BP.sq {w : pb_W} {H : Heap} {M : Nat → Prop} {b sl e : Nat} {pv : Value} {V : List Nat} {G : Nat → Nat → Nat} (h : BP w H M b sl e pv V G) : Sq w H (fun q => q < H.size) b sl pv V G :=
  ⟨⟨h.1.lt, h.1.r, (h.2.2.1.r (by rw [h.2.2.2.1]; decide)).below, h.2.2.2.1⟩, fun i hi => (h.2.2.2.2 i hi).mono fun q hq _ => hq⟩
theorem BP.kept {w : pb_W} {H H1 : Heap} {M : Nat → Prop} {b sl e : Nat} {pv : Value} {V : List Nat} {G : Nat → Nat → Nat} (h : BP w H M b sl e pv V G) (f : pb_F (fun q => q < H.size) H H1) : BP w H1 M b sl e pv V G := by
  have ha := h.a
  obtain ⟨h1, h2, h3, h4, h5⟩ := h
  refine ⟨h1.kept (f.2 _ h1.lt h1.lt), h2, h3.kept (f.2 _ ha.2.2.2.1 ha.2.2.2.1) (fun _ hx => f.2 _ hx hx), h4, fun i hi => ?_⟩
  exact ((h5 i hi).mono (P' := fun q => q < H.size ∧ q ≠ b ∧ q ≠ sl ∧ q ≠ e ∧ M q) fun q hq hp => ⟨hq, hp⟩).kept (f.mono fun q _ hq => hq.1) |>.mono fun q _ hq => hq.2
theorem BP.put {w : pb_W} {H H1 : Heap} {M P : Nat → Prop} {b sl e t r : Nat} {pv : Value} {V : List Nat} {G : Nat → Nat → Nat} {g : Nat → Nat} (h : BP w H M b sl e pv V G) (ht : t < 8) (hQ : Rq w H P r g) (hP : ∀ q, q < H.size → P q → q ≠ b ∧ q ≠ sl ∧ q ≠ e ∧ M q) (hL : Lb w H1 w.2.2.2 sl e (V.set t r)) (hF : pb_F (fun q => q ≠ e) H H1) (hbe : b ≠ e) : BP w H1 M b sl e pv (V.set t r) (gup G t g) := by
  obtain ⟨h1, h2, h3, h4, h5⟩ := h
  refine ⟨h1.kept (hF.2 _ h1.lt hbe), h2, hL, by rw [List.length_set]; exact h4, fun i hi => ?_⟩
  rw [nV_set (by omega)]
  unfold gup
  by_cases c : i = t
  · rw [if_pos c, if_pos c]
    exact (hQ.mono hP).kept (hF.mono fun q _ hq => hq.2.2.1)
  · rw [if_neg c, if_neg c]
    exact (h5 i hi).kept (hF.mono fun q _ hq => hq.2.2.1)
theorem rs_cong {L : List Bnd} {S T : Int → Int → Bool} (h : rs L S) (e : ∀ x y, S x y = T x y) : rs L T := ⟨h.1, fun x y => (h.2 x y).trans (e x y)⟩
/-- a finished region as a sheet's region -/
theorem Rb.rq {w : pb_W} {H : Heap} {z r : Nat} {L : List Bnd} {S : Int → Int → Bool} {g : Nat → Nat} (h : Rb w H z r L) (hr : rs L S) (hg : gok g) (e : ∀ x y, gc g x y = S x y) : Rq w H (fun q => z ≤ q ∧ q < H.size) r g := by
  have hr2 : rs L (gc g) := rs_cong hr fun x y => (e x y).symm
  exact ⟨hg, L, h.box hr2 (gc_box hg), hr2⟩
def bxg (a b c d : Nat) : Nat → Nat := fun y => if b ≤ y ∧ y < d then rngm a c else 0
theorem bxg_ok {a b c d : Nat} (hc : c ≤ 24) (hd : d ≤ 24) : gok (bxg a b c d) := by
  refine ⟨fun y => ?_, fun y hy => ?_⟩
  · unfold bxg; split
    · exact rngm_lt hc
    · decide
  · unfold bxg; rw [if_neg (by omega)]
theorem bxg_gc {a b c d : Nat} (hc : c ≤ 24) (hd : d ≤ 24) (x y : Int) : gc (bxg a b c d) x y = ((decide (((a : Nat) : Int) ≤ x) && decide (x < ((c : Nat) : Int))) && (decide (((b : Nat) : Int) ≤ y) && decide (y < ((d : Nat) : Int)))) := by
  by_cases h : (0 ≤ x ∧ x ≤ 23) ∧ 0 ≤ y ∧ y ≤ 23
  · obtain ⟨i, hi⟩ := Int.eq_ofNat_of_zero_le h.1.1
    obtain ⟨j, hj⟩ := Int.eq_ofNat_of_zero_le h.2.1
    subst hi; subst hj
    rw [gc_nat]
    unfold bxg
    by_cases hy : b ≤ j ∧ j < d
    · rw [if_pos hy, rngm_bit, decide_eq_true (show ((b : Nat) : Int) ≤ (j : Int) from by omega), decide_eq_true (show (j : Int) < ((d : Nat) : Int) from by omega), Bool.and_true, Bool.and_true]
      congr 1
      · exact decide_eq_decide.mpr (by omega)
      · exact decide_eq_decide.mpr (by omega)
    · rw [if_neg hy, Nat.zero_testBit]
      symm
      rw [Bool.and_eq_false_iff]; right
      rw [Bool.and_eq_false_iff, decide_eq_false_iff_not, decide_eq_false_iff_not]
      omega
  · rw [gc_off (bxg_ok hc hd) h]
    symm
    rw [Bool.and_eq_false_iff, Bool.and_eq_false_iff, Bool.and_eq_false_iff]
    simp only [decide_eq_false_iff_not]
    omega
theorem rs_nil : rs [] (fun _ _ => false) := ⟨cb_nil, fun x y => by rw [show rowL [] y = [] from rfl]; rfl⟩
theorem gc_0 (x y : Int) : gc (fun _ => 0) x y = false := by
  cases h : gc (fun _ => 0) x y
  · rfl
  · have := gc_in gok_0 h
    obtain ⟨i, hi⟩ := Int.eq_ofNat_of_zero_le this.1.1
    obtain ⟨j, hj⟩ := Int.eq_ofNat_of_zero_le this.2.1
    subst hi; subst hj
    rw [gc_nat, Nat.zero_testBit] at h; cases h
theorem Rb.bx {w : pb_W} {H : Heap} {z r a p c d : Nat} (h : Rb w H z r (recF ((a : Nat) : Int) ((p : Nat) : Int) ((c : Nat) : Int) ((d : Nat) : Int))) (h3 : c ≤ 24) (h4 : d ≤ 24) : Rq w H (fun q => q < H.size) r (bxg a p c d) := by
  have h5 : Rq w H (fun q => z ≤ q ∧ q < H.size) r (bxg a p c d) := h.rq (rec_set _ _ _ _) (bxg_ok h3 h4) (fun x y => bxg_gc h3 h4 x y)
  exact h5.mono (fun q hq _ => hq)
