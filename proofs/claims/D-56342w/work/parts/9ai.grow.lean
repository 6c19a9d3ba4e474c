set_option maxRecDepth 100000
/-! growing and shrinking: what the contracts ask for -/
theorem wdn_rg {L : List Bnd} {S : Int → Int → Bool} (hr : rs L S) {a b c e : Int} (hb : inBox S a b c e) {d : Int} (hd : 0 ≤ d) {j : Nat} (hj : j < (wdnF L d L.length).length) (x : Int) (hx : mE (bE (wdnF L d L.length) j) x = true) : a - d ≤ x ∧ x < b + d := by
  obtain ⟨w1, w2⟩ := wdn_set hr.1 hd
  have h1 := (w1.1 j hj).1
  rw [← row_at w1 hj (Int.le_refl _) h1] at hx
  obtain ⟨x', h2, h3⟩ := (w2 _ _).mp hx
  have h4 := rs_row hr hb _ x' h2
  omega
theorem gro_pre {L : List Bnd} {S : Int → Int → Bool} (hr : rs L S) {a b c e : Int} (hb : inBox S a b c e) {d : Int} (hd : 0 ≤ d) (hab : a ≤ b) (hw : b - a + 2 * d ≤ 63) : ∀ y k, k < (wdnF L d L.length).length → ∀ n, n ≤ ((sarF (wdnF L d L.length) y d k)).length + ((bE (wdnF L d L.length) k)).length → (cmS 0 ((sarF (wdnF L d L.length) y d k)) ((bE (wdnF L d L.length) k)) n).2.2.2.length ≤ 64 := by
  intro y k hk n hn
  obtain ⟨w1, w2⟩ := wdn_set hr.1 hd
  obtain ⟨s1, s2⟩ := sar_set w1 y d k (Nat.le_of_lt hk)
  have h := cm_len s1 (w1.1 k hk).2.1 0 (a := a - d) (b := b + d) (by omega) (fun x hx => by
    obtain ⟨j, hj, -, h3⟩ := (s2 x).mp hx
    exact wdn_rg hr hb hd (by omega) x h3) (wdn_rg hr hb hd hk) hn
  omega
theorem growT_le {L : List Bnd} {S : Int → Int → Bool} (hr : rs L S) {a b c e : Int} (hb : inBox S a b c e) (hce : c ≤ 0 ∧ 0 ≤ e) {d : Int} (hd : 0 ≤ d) : ((growT L d : Nat) : Int) ≤ e - c + 2 * d ∧ (c ≤ lowF L ∧ lowF L ≤ e) := by
  unfold growT lowF
  by_cases h : L.length = 0
  · rw [if_pos h, if_pos h]; exact ⟨by omega, by omega⟩
  · rw [if_neg h, if_neg h]
    have h1 := rs_hts hr hb (j := 0) (by omega)
    have h2 := rs_hts hr hb (j := L.length - 1) (by omega)
    have h3 := (hr.1.1 0 (by omega)).1
    exact ⟨by omega, by omega⟩
theorem dil_box {S : Int → Int → Bool} {a b c e : Int} (hb : inBox S a b c e) (d : Int) : inBox (dil S d) (a - d) (b + d) (c - d) (e + d) := fun x y h => by
  obtain ⟨x', y', h1, h2, h3⟩ := dil_iff.mp h
  have := hb _ _ h1
  omega
theorem out_26 {O : List Bnd} {S : Int → Int → Bool} {A B : Int} (hS : inBox S 0 24 0 24) (hr : rs O (fun x y => opk 2 ((decide (A ≤ x) && decide (x < B)) && (decide (A ≤ y) && decide (y < B))) (S x y))) : O.length ≤ 26 := by
  have hbx : inBox (fun x y => opk 2 ((decide (A ≤ x) && decide (x < B)) && (decide (A ≤ y) && decide (y < B))) (S x y)) A B A B := fun x y h => by
    have h2 : (((decide (A ≤ x) && decide (x < B)) && (decide (A ≤ y) && decide (y < B))) && !S x y) = true := h
    simp only [Bool.and_eq_true, decide_eq_true_eq] at h2
    omega
  have hfar : ∀ x y, (y < 0 ∨ 24 ≤ y) → S x y = false := fun x y h => by
    cases e : S x y
    · rfl
    · have := hS x y e; omega
  have key : ∀ j, 0 < j → j < O.length → 0 ≤ (bd O j).1 ∧ (bd O j).1 ≤ 24 := by
    intro j h0 hj
    have h1 := hr.1.1 j hj
    have h2 := rs_hts hr hbx hj
    have h3 := rs_hts hr hbx (j := j - 1) (by omega)
    have h4 := (hr.1.1 (j - 1) (by omega)).1
    have h5 := cb_up hr.1 (i := j - 1) (j := j) (by omega) hj
    by_cases hc : 0 ≤ (bd O j).1 ∧ (bd O j).1 ≤ 24
    · exact hc
    · exfalso
      refine row_below hr.1 hj ?_
      rw [← row_at hr.1 hj (Int.le_refl _) h1.1]
      refine cn_ext (row_cn hr.1 _) (row_cn hr.1 _) (fun x => ?_)
      rw [hr.2, hr.2]
      show (((decide (A ≤ x) && decide (x < B)) && (decide (A ≤ (bd O j).1 - 1) && decide ((bd O j).1 - 1 < B))) && !S x ((bd O j).1 - 1)) = (((decide (A ≤ x) && decide (x < B)) && (decide (A ≤ (bd O j).1) && decide ((bd O j).1 < B))) && !S x (bd O j).1)
      rw [hfar x ((bd O j).1 - 1) (by omega), hfar x (bd O j).1 (by omega), decide_eq_true (show A ≤ (bd O j).1 - 1 from by omega), decide_eq_true (show (bd O j).1 - 1 < B from by omega), decide_eq_true (show A ≤ (bd O j).1 from by omega), decide_eq_true (show (bd O j).1 < B from by omega)]
  have step : ∀ k, k + 1 < O.length → (bd O 1).1 + ((k : Nat) : Int) ≤ (bd O (k + 1)).1 := by
    intro k
    induction k with
    | zero => intro _; show (bd O 1).1 + 0 ≤ (bd O (0 + 1)).1; rw [Int.add_zero]; exact Int.le_refl _
    | succ k ih =>
      intro hk
      have h1 := ih (by omega)
      have h2 := cb_up hr.1 (i := k + 1) (j := k + 1 + 1) (by omega) hk
      have h3 := (hr.1.1 (k + 1) (by omega)).1
      omega
  rcases Nat.lt_or_ge O.length 2 with h | h
  · omega
  · have h1 := key 1 (by omega) (by omega)
    have h2 := key (O.length - 2 + 1) (by omega) (by omega)
    have h3 := step (O.length - 2) (by omega)
    omega
theorem rp_n : (rpC 26 0 = 30 ∧ rpS 26 0 = 158) ∧ (rpC 40 0 = 45 ∧ rpS 40 0 = 249) ∧ (rpC 42 0 = 47 ∧ rpS 42 0 = 255) ∧ rpC 58 0 = 64 ∧ rpS 58 0 = 376 := by decide
theorem rp_40 {n : Nat} (h : n ≤ 40) : rpC n 0 ≤ 45 ∧ rpS n 0 ≤ 249 := by
  have h1 := lC_le h
  have h2 := lS_le h
  have h3 : lC 40 = 5 := by decide
  have h4 : lS 40 = 129 := by decide
  unfold rpC rpS
  omega
theorem met_X2_shrunk_g {w : pb_W} (l : Launch) {H0 : Heap} (a : Nat) (P : Nat → Prop) (g : Nat → Nat) (hQ : Rq w H0 P a g) (d : Int) (hd : 0 ≤ d ∧ d ≤ 8) : pb_M w l yX2_shrunk cX2_shrunk 4 (some (.object "PolygonBoard$Region")) 9 8852 202412 [.ref a, .int (iZ d)] H0 (pb_qr (fun r H1 => ∃ L, Rb w H1 H0.size r L ∧ rs L (fun x y => opk 2 (gc g x y) (dil (fun x y => opk 2 ((decide (-d - 1 ≤ x) && decide (x < 24 + d + 1)) && (decide (-d - 1 ≤ y) && decide (y < 24 + d + 1))) (gc g x y)) d x y)) ∧ pb_F (fun q => q < H0.size) H0 H1)) := by
  obtain ⟨hg, L, hR, hr⟩ := hQ
  have e1 : (8852 : Nat) = 149 + 9 * 42 + rpC 42 0 + rpC 26 0 + 131 * 58 + rpC 58 0 + 9 * 58 + rpC 58 0 := by decide
  have e2 : (202412 : Nat) = 3239 + 138 * 42 + rpS 42 0 + rpS 26 0 + 3176 * 58 + rpS 58 0 + 138 * 58 + rpS 58 0 := by decide
  rw [e1, e2]
  have hrec := rec_set (-d - 1) (-d - 1) (24 + d + 1) (24 + d + 1)
  have b0 := gc_box hg
  have b1 : inBox (fun x y => (decide (-d - 1 ≤ x) && decide (x < 24 + d + 1)) && (decide (-d - 1 ≤ y) && decide (y < 24 + d + 1))) (-d - 1) (24 + d + 1) (-d - 1) (24 + d + 1) := fun x y h => by
    simp only [Bool.and_eq_true, decide_eq_true_eq] at h
    omega
  have b2 : inBox (gc g) (-d - 1) (24 + d + 1) (-d - 1) (24 + d + 1) := fun x y h => by have := b0 x y h; omega
  obtain ⟨c1, c2, c3⟩ := cmb_pre hrec hr b1 b2 (by omega) (by omega) 42 (by omega)
  have bo : inBox (fun x y => opk 2 ((decide (-d - 1 ≤ x) && decide (x < 24 + d + 1)) && (decide (-d - 1 ≤ y) && decide (y < 24 + d + 1))) (gc g x y)) (-d - 1) (24 + d + 1) (-d - 1) (24 + d + 1) := fun x y h => by
    refine b1 x y ?_
    have h2 : (((decide (-d - 1 ≤ x) && decide (x < 24 + d + 1)) && (decide (-d - 1 ≤ y) && decide (y < 24 + d + 1))) && !gc g x y) = true := h
    rw [Bool.and_eq_true] at h2
    exact h2.1
  have bd2 := dil_box bo d
  have b3 : inBox (gc g) (-d - 1 - d) (24 + d + 1 + d) (-d - 1 - d) (24 + d + 1 + d) := fun x y h => by have := b0 x y h; omega
  refine pb_M.post (met_X2_shrunk l a P L hR d hd 42 58 58 (24 + d + 1) (24 + d + 1 + d) (by decide) (by decide) c1 c2 (fun y n hn => c3 (by omega) 2 y n hn) ?_ ?_) ?_
  · intro O hO
    have hrO := cmb_set hrec hr hO
    obtain ⟨g1, g2, -⟩ := rs_rg hrO bo ⟨by omega, by omega, by omega, by omega⟩
    have g3 := growT_le hrO bo ⟨by omega, by omega⟩ hd.1
    exact ⟨fun j i => by have := g1 j i; omega, fun j => by have := g2 j; omega, out_26 b0 hrO, by omega, by omega, gro_pre hrO bo hd.1 (by omega) (by omega)⟩
  · intro O hO
    have hrO := cmb_set hrec hr hO
    obtain ⟨p1, p2, p3⟩ := cmb_pre hr (gro_set hrO hd.1) b3 bd2 (by omega) (by omega) 58 (by omega)
    exact ⟨by decide, p1, p2, fun y n hn => p3 (by omega) 2 y n hn⟩
  · rintro v H1 ⟨r, rfl, O, Y, n1, n2, n3, n4⟩
    exact ⟨r, rfl, Y, n3, cmb_set hr (gro_set (cmb_set hrec hr n1) hd.1) n2, n4⟩
