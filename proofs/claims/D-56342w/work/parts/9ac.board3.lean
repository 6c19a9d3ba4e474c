set_option maxRecDepth 100000
theorem BP.monoM {w : pb_W} {H : Heap} {M M' : Nat → Prop} {b sl e : Nat} {pv : Value} {V : List Nat} {G : Nat → Nat → Nat} (h : BP w H M b sl e pv V G) (hm : ∀ q, q < H.size → M q → M' q) : BP w H M' b sl e pv V G := by
  obtain ⟨h1, h2, h3, h4, h5⟩ := h
  exact ⟨h1, h2, h3, h4, fun i hi => (h5 i hi).mono fun q hq hp => ⟨hp.1, hp.2.1, hp.2.2.1, hm q hq hp.2.2.2⟩⟩
/-- the path field is written -/
theorem BP.upv {w : pb_W} {H H1 : Heap} {M : Nat → Prop} {b sl e : Nat} {pv pv' : Value} {V : List Nat} {G : Nat → Nat → Nat} (h : BP w H M b sl e pv V G) (hO : pb_O w H1 b 0 [.ref sl, pv']) (u : pb_F (fun q => q ≠ b) H H1) (hbs : sl ≠ b) (hbe : e ≠ b) : BP w H1 M b sl e pv' V G := by
  have ha := h.a
  obtain ⟨h1, h2, h3, h4, h5⟩ := h
  exact ⟨hO, h2, h3.kept (u.2 _ ha.2.2.2.1 hbs) (fun _ hx => u.2 _ hx hbe), h4, fun i hi => (h5 i hi).kept (u.mono fun q _ hp => hp.1)⟩
/-- a cell outside of the board is written -/
theorem BP.frm {w : pb_W} {H H1 : Heap} {M Q : Nat → Prop} {b sl e : Nat} {pv : Value} {V : List Nat} {G : Nat → Nat → Nat} (h : BP w H M b sl e pv V G) (u : pb_F Q H H1) (hb : Q b) (hs : Q sl) (he : Q e) (hM : ∀ q, q < H.size → M q → Q q) : BP w H1 M b sl e pv V G := by
  have ha := h.a
  obtain ⟨h1, h2, h3, h4, h5⟩ := h
  refine ⟨h1.kept (u.2 _ ha.2.2.1 hb), h2, h3.kept (u.2 _ ha.2.2.2.1 hs) (fun _ hx => u.2 _ hx he), h4, fun i hi => ?_⟩
  exact ((h5 i hi).mono (P' := fun q => q < H.size ∧ q ≠ b ∧ q ≠ sl ∧ q ≠ e ∧ M q) fun q hq hp => ⟨hq, hp⟩).kept (u.mono fun q _ hq => hM q hq.1 hq.2.2.2.2) |>.mono fun q _ hq => hq.2
theorem Po.kept {w : pb_W} {H H1 : Heap} {Q : Nat → Prop} {c xs ys : Nat} {X Y : Nat → Int} {n : Nat} (h : Po w H c xs ys X Y n) (f : pb_F Q H H1) (h1 : Q c) (h2 : Q xs) (h3 : Q ys) : Po w H1 c xs ys X Y n :=
  ⟨h.1.kept (f.2 _ h.1.lt h1), h.2.1.kept (f.2 _ h.2.1.lt h2), h.2.2.1.kept (f.2 _ h.2.2.1.lt h3), h.2.2.2⟩
