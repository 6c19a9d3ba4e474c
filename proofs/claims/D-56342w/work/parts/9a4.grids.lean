set_option maxRecDepth 100000
/-! grids and regions that are combined -/
theorem gc_ext {g h : Nat → Nat} (hg : gok g) (hh : gok h) (e : ∀ x y, gc g x y = gc h x y) (y : Nat) : g y = h y := by
  refine Nat.eq_of_testBit_eq fun i => ?_
  rw [← gc_nat, ← gc_nat]; exact e _ _
theorem gc_off {g : Nat → Nat} (hg : gok g) {x y : Int} (h : ¬ ((0 ≤ x ∧ x ≤ 23) ∧ 0 ≤ y ∧ y ≤ 23)) : gc g x y = false := by
  cases e : gc g x y
  · rfl
  · exact absurd (gc_in hg e) h
theorem gc_eqn {g h : Nat → Nat} (hg : gok g) (hh : gok h) (e : ∀ y, y < 24 → g y = h y) (x y : Int) : gc g x y = gc h x y := by
  by_cases c : (0 ≤ x ∧ x ≤ 23) ∧ 0 ≤ y ∧ y ≤ 23
  · obtain ⟨a, ha⟩ := Int.eq_ofNat_of_zero_le c.1.1
    obtain ⟨b, hb⟩ := Int.eq_ofNat_of_zero_le c.2.1
    subst ha; subst hb
    rw [gc_nat, gc_nat, e b (by omega)]
  · rw [gc_off hg c, gc_off hh c]
theorem same_law {L : List Bnd} {g h : Nat → Nat} (hg : gok g) (hh : gok h) (hr : rs L (fun x y => opk 3 (gc g x y) (gc h x y))) : decide (L.length = 0) = allB (fun y => decide (g y = h y)) 24 := by
  refine b_iff ?_
  rw [decide_eq_true_iff, rs_empty hr, allB_iff]
  constructor
  · intro e i _
    refine decide_eq_true (gc_ext hg hh (fun x y => ?_) i)
    have h9 := e x y
    revert h9
    cases gc g x y <;> cases gc h x y <;> decide
  · intro e x y
    show (gc g x y != gc h x y) = false
    rw [gc_eqn hg hh (fun y hy => of_decide_eq_true (e y hy)) x y]
    cases gc h x y <;> rfl
theorem covers_law {L : List Bnd} {g h : Nat → Nat} (hg : gok g) (hr : rs L (fun x y => opk 2 (gc g x y) (gc h x y))) : decide (L.length = 0) = allB (fun y => decide (pb_dif (g y) (h y) = 0)) 24 := by
  refine b_iff ?_
  rw [decide_eq_true_iff, rs_empty hr, allB_iff]
  constructor
  · intro e i _
    refine decide_eq_true (Nat.eq_of_testBit_eq fun x => ?_)
    rw [pb_dif_bit, Nat.zero_testBit, ← gc_nat, ← gc_nat]
    exact e _ _
  · intro e x y
    show (gc g x y && !gc h x y) = false
    by_cases c : (0 ≤ x ∧ x ≤ 23) ∧ 0 ≤ y ∧ y ≤ 23
    · obtain ⟨a, ha⟩ := Int.eq_ofNat_of_zero_le c.1.1
      obtain ⟨b, hb⟩ := Int.eq_ofNat_of_zero_le c.2.1
      subst ha; subst hb
      rw [gc_nat, gc_nat, ← pb_dif_bit, of_decide_eq_true (e b (by omega)), Nat.zero_testBit]
    · rw [gc_off hg c]; rfl
theorem Rb.box {w : pb_W} {H : Heap} {z r : Nat} {L : List Bnd} {S : Int → Int → Bool} (h : Rb w H z r L) (hr : rs L S) (hb : inBox S 0 24 0 24) : Rg w H (fun q => z ≤ q ∧ q < H.size) r L := h.rg (by have := rs_len hr hb (by decide); omega)
theorem gok_of_S {S : Int → Int → Bool} (hb : inBox S 0 24 0 24) {g : Nat → Nat} (e : ∀ x y, gc g x y = S x y) (hz : ∀ y, 24 ≤ y → g y = 0) : gok g := by
  refine ⟨fun y => ?_, hz⟩
  refine Nat.lt_pow_two_of_testBit (n := 24) (g y) fun i hi => ?_
  cases h : (g y).testBit i
  · rfl
  · rw [← gc_nat, e] at h
    have := hb _ _ h
    omega
theorem met_X2_combine_g {w : pb_W} (l : Launch) {H0 : Heap} (a b k : Nat) (hk : k < 4) (P P2 : Nat → Prop) (g h : Nat → Nat) (hQ1 : Rq w H0 P a g) (hQ2 : Rq w H0 P2 b h) : pb_M w l yX2_combine cX2_combine 6 (some (.object "PolygonBoard$Region")) 8 248 3476 [.ref a, .ref b, .ref (w.2.2.1 (3 + k))] H0 (pb_qr (fun r H1 => ∃ L, Rg w H1 (fun q => H0.size ≤ q ∧ q < H1.size) r L ∧ rs L (fun x y => opk k (gc g x y) (gc h x y)) ∧ pb_F (fun q => q < H0.size) H0 H1)) := by
  obtain ⟨hg, L, hR, hr⟩ := hQ1
  obtain ⟨hh, M, hR2, hr2⟩ := hQ2
  obtain ⟨c1, c2, c3⟩ := cmb_pre hr hr2 (gc_box hg) (gc_box hh) (by decide) (by decide) 24 (by decide)
  have e1 : (248 : Nat) = 4 + 9 * 24 + rpC 24 0 := by decide
  have e2 : (3476 : Nat) = 12 + 138 * 24 + rpS 24 0 := by decide
  rw [e1, e2]
  refine pb_M.post (met_X2_combine l a b k hk P P2 L M hR hR2 24 24 (by decide) c1 c2 (fun y n hn => c3 (by decide) k y n hn)) ?_
  rintro v H1 ⟨r, rfl, N, n1, n2, n3, n4⟩
  have hs := rcm_set hr hr2 n1
  have hbx : inBox (fun x y => opk k (gc g x y) (gc h x y)) 0 24 0 24 := fun x y e => by
    by_cases e1 : gc g x y = true
    · exact gc_box hg x y e1
    · by_cases e2 : gc h x y = true
      · exact gc_box hh x y e2
      · simp only [Bool.not_eq_true] at e1 e2
        dsimp only at e; rw [e1, e2, opk_ff] at e; cases e
  exact ⟨r, rfl, _, n3.box hs hbx, hs, n4⟩
theorem met_X7_scan_X13_0 {w : pb_W} (l : Launch) {H0 : Heap} (z c a : Nat) (L : List Bnd) (hR : Rg w H0 (fun q => q < z) a L) (hz : w.2.2.2 ≤ z) (hPw : Pw w H0 z c ([], fun _ => 0, 0)) (hn : cntR L L.length ≤ 288) : pb_M w l yX7_scan cX7_scan 5 none 8 (1 + rpP 288 0) (4 + rpQ 288 0) [.ref c, .ref a] H0 (pb_qv (fun H1 => Pw w H1 z c (scL paS L ([], fun _ => 0, 0) L.length) ∧ pb_F (fun q => q < z) H0 H1)) :=
  met_X7_scan_X13 l z c a L hR ([], fun _ => 0, 0) hz hPw 288 ⟨by show 0 + _ ≤ 288; omega, by decide⟩
