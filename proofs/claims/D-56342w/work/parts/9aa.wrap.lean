set_option maxRecDepth 100000
/-! regions that are made from others, by their cells -/
theorem rq_900 {L : List Bnd} {g : Nat → Nat} (hg : gok g) (hr : rs L (gc g)) : (∀ j i, -900 ≤ eE (bE L j) i ∧ eE (bE L j) i ≤ 900) ∧ (∀ j, (-900 ≤ (bd L j).1 ∧ (bd L j).1 ≤ 900) ∧ (-900 ≤ (bd L j).2.1 ∧ (bd L j).2.1 ≤ 900)) := by
  obtain ⟨h1, h2, -, -⟩ := rq_pre hg hr
  exact ⟨fun j i => by have := h1 j i; omega, fun j => by have := h2 j; omega⟩
theorem met_X2_turned_g {w : pb_W} (l : Launch) {H0 : Heap} (a : Nat) (P : Nat → Prop) (g : Nat → Nat) (hQ : Rq w H0 P a g) : pb_M w l yX2_turned cX2_turned 6 (some (.object "PolygonBoard$Region")) 8 150 3084 [.ref a] H0 (pb_qr (fun r H1 => ∃ L, Rb w H1 H0.size r L ∧ rs L (fun x y => gc g y (23 - x)) ∧ pb_F (fun q => q < H0.size) H0 H1)) := by
  obtain ⟨hg, L, hR, hr⟩ := hQ
  have e1 : (150 : Nat) = 2 + 24 * 5 + rpC 24 0 := by decide
  have e2 : (3084 : Nat) = 4 + 24 * 122 + rpS 24 0 := by decide
  rw [e1, e2]
  refine pb_M.post (met_X2_turned l a P L hR (rq_900 hg hr).2 (by have := (rq_pre hg hr).2.2.2; omega)) ?_
  rintro v H1 ⟨r, rfl, n1, n2⟩
  exact ⟨r, rfl, _, n1, tur_set hr (gc_box hg), n2⟩
theorem met_X2_mirrored_g {w : pb_W} (l : Launch) {H0 : Heap} (a : Nat) (P : Nat → Prop) (g : Nat → Nat) (hQ : Rq w H0 P a g) : pb_M w l yX2_mirrored cX2_mirrored 4 (some (.object "PolygonBoard$Region")) 8 151 3088 [.ref a] H0 (pb_qr (fun r H1 => ∃ L, Rb w H1 H0.size r L ∧ rs L (fun x y => gc g (23 - x) y) ∧ pb_F (fun q => q < H0.size) H0 H1)) := by
  obtain ⟨hg, L, hR, hr⟩ := hQ
  have e1 : (151 : Nat) = 3 + 5 * 24 + rpC 24 0 := by decide
  have e2 : (3088 : Nat) = 8 + 122 * 24 + rpS 24 0 := by decide
  rw [e1, e2]
  refine pb_M.post (met_X2_mirrored l a P L hR (rq_900 hg hr).1 (rq_900 hg hr).2 24 ⟨(rq_pre hg hr).2.2.2, by decide⟩) ?_
  rintro v H1 ⟨r, rfl, n1, n2⟩
  exact ⟨r, rfl, _, n1, mir_set hr, n2⟩
def cb24 (x y : Int) : Bool := (decide (0 ≤ x) && decide (x < 24)) && (decide (0 ≤ y) && decide (y < 24))
theorem cb24_iff {x y : Int} : cb24 x y = true ↔ (0 ≤ x ∧ x < 24) ∧ 0 ≤ y ∧ y < 24 := by
  unfold cb24
  rw [Bool.and_eq_true, Bool.and_eq_true, Bool.and_eq_true, decide_eq_true_iff, decide_eq_true_iff, decide_eq_true_iff, decide_eq_true_iff]
theorem met_X2_moved_g {w : pb_W} (l : Launch) {H0 : Heap} (a : Nat) (P : Nat → Prop) (g : Nat → Nat) (hQ : Rq w H0 P a g) (rr u : Int) (hrr : -24 ≤ rr ∧ rr ≤ 24) (huu : -24 ≤ u ∧ u ≤ 24) : pb_M w l yX2_moved cX2_moved 6 (some (.object "PolygonBoard$Region")) 10 646 10024 [.ref a, .int (iZ rr), .int (iZ u)] H0 (pb_qr (fun r H1 => ∃ L, Rb w H1 H0.size r L ∧ rs L (fun x y => gc g (x - rr) (y - u) && cb24 x y) ∧ pb_F (fun q => q < H0.size) H0 H1)) := by
  obtain ⟨hg, L, hR, hr⟩ := hQ
  have e1 : (646 : Nat) = 13 + 5 * 24 + rpC 24 0 + 9 * 48 + rpC 48 0 := by decide
  have e2 : (10024 : Nat) = 47 + 122 * 24 + rpS 24 0 + 138 * 48 + rpS 48 0 := by decide
  rw [e1, e2]
  have hm := mov_set hr rr u
  have hc := rec_set 0 0 24 24
  have b1 : inBox (fun x y => gc g (x - rr) (y - u)) (min rr 0) (max rr 0 + 24) (min u 0) (max u 0 + 24) := fun x y e => by
    have := gc_box hg _ _ e
    omega
  have b2 : inBox (fun x y => (decide (0 ≤ x) && decide (x < 24)) && (decide (0 ≤ y) && decide (y < 24))) (min rr 0) (max rr 0 + 24) (min u 0) (max u 0 + 24) := fun x y e => by
    have := cb24_iff.mp e
    omega
  obtain ⟨c1, c2, c3⟩ := cmb_pre hm hc b1 b2 (by omega) (by omega) 48 (by omega)
  refine pb_M.post (met_X2_moved l a P L hR (rq_900 hg hr).1 (rq_900 hg hr).2 rr u (by omega) (by omega) 24 ⟨(rq_pre hg hr).2.2.2, by decide⟩ 48 (max u 0 + 24) (by decide) c1 c2 (fun y n hn => c3 (by omega) 1 y n hn)) ?_
  rintro v H1 ⟨r, rfl, Y, n1, n2, n3⟩
  exact ⟨r, rfl, _, n2, cmb_set hm hc n1, n3⟩
theorem met_X11_filled_g {w : pb_W} (l : Launch) {H0 : Heap} (c : Nat) (P : Nat → Prop) (X Y : Nat → Int) (n : Nat) (hQ : Pq w H0 P c X Y n) (odd : Bool) (hs : stP X Y n) : pb_M w l yX11_filled cX11_filled 4 (some (.object "PolygonBoard$Region")) 8 150 3084 [.ref c, .int (iZ (bI odd))] H0 (pb_qr (fun r H1 => ∃ L, Rb w H1 H0.size r L ∧ rs L (fun x y => decide (0 ≤ x ∧ x < 24 ∧ 0 ≤ y ∧ y < 24) && wfill X Y n odd y.toNat x.toNat) ∧ pb_F (fun q => q < H0.size) H0 H1)) := by
  have e1 : (150 : Nat) = 2 + 24 * 5 + rpC 24 0 := by decide
  have e2 : (3084 : Nat) = 4 + 24 * 122 + rpS 24 0 := by decide
  rw [e1, e2]
  refine pb_M.post (met_X11_filled l c P X Y n hQ odd) ?_
  rintro v H1 ⟨r, rfl, n1, n2⟩
  exact ⟨r, rfl, _, n1, fil_set hs odd, n2⟩
theorem met_X12_toRegion_g {w : pb_W} (l : Launch) {H0 : Heap} (c : Nat) (P : Nat → Prop) (g : Nat → Nat) (hQ : Cq w H0 P c g) (hg : gok g) : pb_M w l yX12_toRegion cX12_toRegion 5 (some (.object "PolygonBoard$Region")) 8 150 3084 [.ref c] H0 (pb_qr (fun r H1 => ∃ L, Rb w H1 H0.size r L ∧ rs L (gc g) ∧ pb_F (fun q => q < H0.size) H0 H1)) := by
  have e1 : (150 : Nat) = 2 + 24 * 5 + rpC 24 0 := by decide
  have e2 : (3084 : Nat) = 4 + 24 * 122 + rpS 24 0 := by decide
  rw [e1, e2]
  refine pb_M.post (met_X12_toRegion l c P g hQ) ?_
  rintro v H1 ⟨r, rfl, n1, n2⟩
  exact ⟨r, rfl, _, n1, toF_set hg, n2⟩
