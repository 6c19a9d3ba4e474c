set_option maxRecDepth 100000
theorem met_X13_partAt_s {w : pb_W} (l : Launch) {H0 : Heap} (c t : Nat) (v0 v2 : Value) (V : List Nat) (RR : List Rct) (P ro : Nat → Nat) (Pr : Nat → Prop) (hO : pb_R w H0 c 8 [v0, .ref t, v2]) (hLr : Lr w H0 Pr t V) (hVn : V.length = RR.length) (hRO : RO w H0 V RR P) (hds : dsV V) (hFO : FO_ RR.length P ro) (x y : Int) (hx : -2000 ≤ x ∧ x ≤ 2000) (hy : -2000 ≤ y ∧ y ≤ 2000) (i0 : Nat) (hk : paK RR ro x y RR.length = some i0) : pb_M w l yX13_partAt cX13_partAt 6 (some (.object "PolygonBoard$Rectangle")) 3 1 4 [.ref c, .int (iZ x), .int (iZ y)] H0 (pb_qr (fun a H1 => a = nV V i0 ∧ pb_F (fun q => q < H0.size) H0 H1)) := by
  refine pb_M.post (met_X13_partAt l c t v0 v2 V RR P ro Pr hO hLr hVn hRO hds hFO x y hx hy) ?_
  rintro v H1 ⟨z, rfl, rfl, hF⟩
  rw [hk]
  exact ⟨_, rfl, rfl, hF⟩
theorem rp_288 {n : Nat} (h : n ≤ 288) : rpC n 0 ≤ 298 ∧ rpS n 0 ≤ 1948 := by
  have h1 := lC_le h
  have h2 := lS_le h
  have h3 : lC 288 = 10 := by decide
  have h4 : lS 288 = 1084 := by decide
  unfold rpC rpS
  omega
theorem rp_P288 : rpP 288 0 = 586 ∧ rpQ 288 0 = 3676 := by decide
theorem cn_S {g : Nat → Nat} {L : List Bnd} {s : Int × Int} {g2 : Nat → Nat} (hb : cbL L) (h : ∀ x y, mE (rowL L y) x = true ↔ cn (gT g) false s (x, y)) (e : ∀ x y, gc g2 x y = true ↔ cn (gT g) false s (x, y)) : rs L (gc g2) := ⟨hb, fun x y => b_iff ((h x y).trans (e x y).symm)⟩
