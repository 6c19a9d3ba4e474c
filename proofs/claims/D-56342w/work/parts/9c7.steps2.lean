set_option maxRecDepth 100000
/-! longs, doubles -/
theorem pb_MW.post {w : pb_W} {l : Launch} {y : MethodName} {cc : ByteArray} {nL : Nat} {ret : Option FieldType} {tt : List (Nat × Nat × Nat × Nat)} {d mc ms : Nat} {as : List Value} {H : Heap} {post post' : Option Value → Heap → Prop} (h : pb_MW w l y cc nL ret tt d mc ms as H post) (hp : ∀ v H1, post v H1 → post' v H1) : pb_MW w l y cc nL ret tt d mc ms as H post' := by
  intro p e ha hc hk s m args below hf happ hP hK
  obtain ⟨n, o, h1, h2, h3, ⟨v, h4, h5⟩, h6⟩ := h p e ha hc hk s m args below hf happ hP hK
  exact ⟨n, o, h1, h2, h3, ⟨v, h4, hp _ _ h5⟩, h6⟩
section ST2
variable {w : pb_W} {l : Launch} {yW : MethodName} {cW : ByteArray} {nW : Nat} {tt : List (Nat × Nat × Nat × Nat)} {yX : MethodName} {cX : ByteArray} {nX : Nat} {rX : FieldType} {asW asX : List Value} {H : Heap} {b sl o oL oD mc ms d' : Nat} {S : mS} {M : Nat → Prop} {e : Nat} {V : List Nat} {G : Nat → Nat → Nat} {pv : Value}
theorem StepL_r (hP : LWP w H b sl o oL oD S M e V G pv) {v : Int} (hmc : mc ≤ 49000) (hms : ms ≤ 228000) (hd : d' ≤ 15)
    (hW : pb_MW w l yW cW nW (some .int) tt 15 mc ms asW H (pb_qi (fun k H2 => k = 0 ∧ ∃ z H1 g9, (z = v ∧ pb_F (fun q => q < H.size) H H1) ∧ pb_A w H2 oL 2 1 (updV g9 0 (.long (lZ z))) ∧ pb_Up oL H1 H2)))
    (hX : ∀ H2, MW w H2 o S → pb_M w l yX cX nX (some .long) d' 0 0 asX H2 (pb_ql (fun z H3 => z = v ∧ MW w H3 o (mI S 0 0) ∧ mF o H2 H3))) :
    StepL w l yW cW nW tt yX cX nX asW asX H b sl o oL oD := by
  have hI : LWI w H b sl o oL oD S := ⟨M, e, V, G, pv, hP⟩
  have hs := hI.st
  refine ⟨mc, ms, d', _, fun _ H2 z H3 => z = v ∧ MW w H3 o (mI S 0 0) ∧ mF o H2 H3, hmc, hms, hd, hW, ?_, ?_⟩
  · rintro k H2 ⟨rfl, z, H1, g9, ⟨hz, f1⟩, hA, u⟩
    obtain ⟨m1, m2⟩ := hP.mid (fun q hq => Or.inl hq) f1 hA u
    exact ⟨m1, by decide, m2.o, hX H2 m2⟩
  · rintro k H2 z H3 ⟨rfl, z1, H1, g9, ⟨hz, f1⟩, hA, u⟩ ⟨hz3, e4, e5⟩
    have hA3 : pb_A w H3 oL 2 1 (updV g9 0 (.long (lZ z1))) := hA.kept (e5.2 _ hs.2.2.2.2.1)
    have hz9 : z = z1 := hz3.trans hz.symm
    rw [hz9]
    refine ⟨e5.z hs.1.1, _, e4, rfl, fun _ => ⟨g9, hA3⟩, hI.move ⟨?_, fun q hq hm => ?_⟩ e4 (SE.thr S 0) rfl ⟨_, hA3⟩ (hP.lD (fun q hq => Or.inl hq) f1 u e5)⟩
    · rw [e5.1, u.1]; exact f1.1
    · rw [e5.2 q hm.2.1, u.2 q hm.2.2.1]
      exact f1.2 q hq hm.1
theorem StepD_r (hP : LWP w H b sl o oL oD S M e V G pv) {dv : Value → UInt64 → Prop} {P3 : Value → Prop} {v0 : UInt64} (hmc : mc ≤ 49000) (hms : ms ≤ 228000) (hd : d' ≤ 15) (hv : ∀ z, P3 z → dv z v0)
    (hW : pb_MW w l yW cW nW (some .int) tt 15 mc ms asW H (pb_qi (fun k H2 => k = 0 ∧ ∃ H1 g9, pb_F (fun q => q < H.size) H H1 ∧ pb_A w H2 oD 3 1 (updV g9 0 (.double v0)) ∧ pb_Up oD H1 H2)))
    (hX : ∀ H2, MW w H2 o S → pb_M w l yX cX nX (some rX) d' 0 0 asX H2 (pb_qq (fun z H3 => P3 z ∧ MW w H3 o (mI S 0 0) ∧ mF o H2 H3))) :
    StepD w l yW cW nW tt yX cX nX rX dv asW asX H b sl o oL oD := by
  have hI : LWI w H b sl o oL oD S := ⟨M, e, V, G, pv, hP⟩
  have hs := hI.st
  obtain ⟨h1, h2, h3, h4, h5, ⟨g6, h6⟩, ⟨g7, h7⟩, h8, h9, h10, h11, h12, h13, h14, h15, h16⟩ := id hP
  refine ⟨mc, ms, d', _, fun _ H2 z H3 => P3 z ∧ MW w H3 o (mI S 0 0) ∧ mF o H2 H3, hmc, hms, hd, hW, ?_, ?_⟩
  · rintro k H2 ⟨rfl, H1, g9, f1, hA, u⟩
    have m2 : MW w H2 o S := h1.keptF fun q a1 a2 => by rw [u.2 q (by omega)]; exact f1.2 q (by omega) (show q < H.size from by omega)
    refine ⟨⟨by rw [u.1]; exact f1.1, fun q hq hz => ?_⟩, by decide, m2.o, hX H2 m2⟩
    have hz : q < w.2.2.2 := hz
    rw [u.2 q (by omega)]
    exact f1.2 q hq hq
  · rintro k H2 z H3 ⟨rfl, H1, g9, f1, hA, u⟩ ⟨hz3, e4, e5⟩
    have hA3 : pb_A w H3 oD 3 1 (updV g9 0 (.double v0)) := hA.kept (e5.2 _ h11)
    have hL3 : pb_A w H3 oL 2 1 g6 := h6.kept (by rw [e5.2 _ h10, u.2 _ h12]; exact f1.2 _ h6.lt h6.lt)
    refine ⟨e5.z hs.1.1, _, v0, e4, rfl, hv z hz3, fun _ => ⟨g9, hA3⟩, hI.move ⟨?_, fun q hq hm => ?_⟩ e4 (SE.thr S 0) rfl ⟨_, hL3⟩ ⟨_, hA3⟩⟩
    · rw [e5.1, u.1]; exact f1.1
    · rw [e5.2 q hm.2.1, u.2 q hm.2.2.2]
      exact f1.2 q hq hm.1
end ST2
theorem midV_n (a : Nat) {c : Nat} (h0 : 0 < c) (h : c < 1000) : vf_n64 (midV a c) := fp_ddiv (fp_ddiv (fp_i2d _) fp_two) (fp_nz64 h0 h)
theorem fulV_n (a : Nat) {c : Nat} (h0 : 0 < c) (h : c < 1000) : vf_n32 (fulV a c) := fp_fdiv (fp_i2f _) (fp_nz32 h0 h)
/-! ways: the reference's search -/
section WAY
variable {w : pb_W} {l : Launch} {y : MethodName} {cc : ByteArray} {nL d o : Nat} {ret : Option FieldType} {as : List Value} {H2 : Heap} {S : mS} {g : Nat → Nat} {A B : Nat} {old : Nat → Int}
theorem way_ok (hg : gok g) (hA : A < 576) (hB : B < 576) (hw : ∃ m, lv g A m B) (h : pb_M w l y cc nL ret d 0 0 as H2 (pb_qi (fun z H1 => ∃ n : Nat, ((0 ≤ (bfs g A old n) B ∧ z = (bfs g A old n) B ∧ MW w H1 o (mC (mI S 0 0) 2 (bfs g A old n))) ∨ (bfs g A old (n + 1) = (bfs g A old n) ∧ (bfs g A old n) B < 0 ∧ z = 0 ∧ MW w H1 o (mI (mC (mI S 0 0) 2 (bfs g A old n)) 0 3))) ∧ mF o H2 H1))) :
    pb_M w l y cc nL ret d 0 0 as H2 (pb_qi (fun z H3 => ∃ S', (∃ v : Nat, z = ((v : Nat) : Int) ∧ dst g A v B) ∧ SE S S' ∧ S'.2.1 0 = S.2.1 0 ∧ S'.1 0 = 0 ∧ MW w H3 o S' ∧ mF o H2 H3)) := by
  refine pb_M.post h ?_
  rintro v H1 ⟨z, hv, n, h1 | h1, hm⟩
  · obtain ⟨a1, a2, a3⟩ := h1
    obtain ⟨v9, e1, e2⟩ := (bfs_law hg hA hB old (n := n)).1 a1
    exact ⟨z, hv, mC (mI S 0 0) 2 (bfs g A old n), ⟨v9, a2.trans e1, e2⟩, ⟨rfl, rfl, rfl⟩, rfl, rfl, a3, hm⟩
  · obtain ⟨a1, a2, a3, a4⟩ := h1
    obtain ⟨m9, hm9⟩ := hw
    exact absurd hm9 ((bfs_law hg hA hB old (n := n)).2 a1 a2 m9)
theorem way_no (hg : gok g) (hA : A < 576) (hB : B < 576) (hw : ¬ ∃ m, lv g A m B) (h : pb_M w l y cc nL ret d 0 0 as H2 (pb_qi (fun z H1 => ∃ n : Nat, ((0 ≤ (bfs g A old n) B ∧ z = (bfs g A old n) B ∧ MW w H1 o (mC (mI S 0 0) 2 (bfs g A old n))) ∨ (bfs g A old (n + 1) = (bfs g A old n) ∧ (bfs g A old n) B < 0 ∧ z = 0 ∧ MW w H1 o (mI (mC (mI S 0 0) 2 (bfs g A old n)) 0 3))) ∧ mF o H2 H1))) :
    pb_M w l y cc nL ret d 0 0 as H2 (pb_qi (fun z H1 => z = 0 ∧ ∃ S', SE S S' ∧ S'.2.1 0 = S.2.1 0 ∧ S'.1 0 = 3 ∧ MW w H1 o S' ∧ mF o H2 H1)) := by
  refine pb_M.post h ?_
  rintro v H1 ⟨z, hv, n, h1 | h1, hm⟩
  · obtain ⟨a1, a2, a3⟩ := h1
    obtain ⟨v9, e1, e2⟩ := (bfs_law hg hA hB old (n := n)).1 a1
    exact absurd ⟨v9, e2.1⟩ hw
  · obtain ⟨a1, a2, a3, a4⟩ := h1
    exact ⟨z, hv, a3, mI (mC (mI S 0 0) 2 (bfs g A old n)) 0 3, ⟨rfl, rfl, rfl⟩, rfl, rfl, a4, hm⟩
end WAY
