set_option maxRecDepth 100000
/-! the law's prologue and the switch: plain parts -/
theorem LWI.pc {w : pb_W} (l : Launch) {H : Heap} {b sl o oL oD : Nat} {S : mS} (h : LWI w H b sl o oL oD S) : (0 ≤ S.1 1 ∧ S.1 1 ≤ 40) ∧ ∃ fs, pb_R w H b 0 fs ∧ pb_M w l yX1_pointCount cX1_pointCount 1 (some .int) 0 0 0 [.ref b] H (pb_qx (.int (iZ (S.1 1))) H) := by
  obtain ⟨M, e, V, G, pv, h1, h2, h3, h4, h5, -⟩ := h
  have hO := h3.1.r
  rcases h5 with ⟨rfl, h6, -⟩ | ⟨c, xs, ys, n, X, Y, rfl, h7, h8, h9, -⟩
  · exact ⟨by omega, _, hO, by rw [h6]; exact met_X1_pointCount_0 l b _ hO⟩
  · exact ⟨by omega, _, hO, by rw [h9]; exact met_X1_pointCount_1 l b c _ _ _ n hO h7.1.r⟩
theorem LWI.mF9 {w : pb_W} {H H1 : Heap} {b sl o oL oD : Nat} {S : mS} {k : Int} (h : LWI w H b sl o oL oD S) (h2 : MW w H1 o (mI S 0 k)) (e5 : mF o H H1) : LWI w H1 b sl o oL oD (mI S 0 k) := by
  have h3 := h.st
  obtain ⟨g6, h6⟩ := h3.2.2.2.2.2.2.2.2.2.2.1
  obtain ⟨g7, h7⟩ := h3.2.2.2.2.2.2.2.2.2.2.2
  exact h.move ⟨Nat.le_of_eq e5.1.symm, fun q hq hm => e5.2 q hm.2.1⟩ h2 (SE.thr S _) rfl ⟨_, h6.kept (e5.2 _ h3.2.2.2.2.1)⟩ ⟨_, h7.kept (e5.2 _ h3.2.2.2.2.2.1)⟩
theorem mg_S0 (i : Nat) : (fun _ => 0 : Nat → Nat) = mg mS0 i := by
  funext y
  unfold mg
  split <;> rfl
theorem lwi_start {w : pb_W} {H1 H2 H3 H4 H5 H6 : Heap} {b9 sl9 e9 o9 oL9 oD9 : Nat} {V9 : List Nat} {gL gD : Nat → Value} (hBP : BP w H2 (fun q => H1.size ≤ q) b9 sl9 e9 .null V9 (fun _ _ => 0)) (hzb : w.2.2.2 ≤ b9) (hbl : b9 < H1.size) (f2 : pb_Nx H2 H3) (ho : o9 = H2.size) (hMW : MW w H4 o9 mS0) (hs4 : H4.size = o9 + 13) (hF4 : pb_F (fun q => q < o9) H3 H4) (f3 : pb_Nx H4 H5) (hoL : oL9 = H4.size) (f4 : pb_Nx H5 H6) (hoD : oD9 = H4.size + 1) (hAL : pb_A w H6 oL9 2 1 gL) (hAD : pb_A w H6 oD9 3 1 gD) : LWI w H6 b9 sl9 o9 oL9 oD9 mS0 := by
  have ha := hBP.a
  have e3 := f3.1
  have e4 := f4.1
  have hF46 : pb_F (fun _ => True) H4 H6 := f3.f.tr f4.f
  have f : pb_F (fun q => q < o9) H2 H6 := ((f2.f.mono (fun _ _ _ => trivial)).tr hF4).tr (hF46.mono (fun _ _ _ => trivial))
  have hB := (hBP.monoM (M' := lM o9 oL9 oD9) (fun q hq _ => ⟨Or.inl (by omega), by omega, by omega⟩)).frm f (show b9 < o9 by omega) (show sl9 < o9 by omega) (show e9 < o9 by omega) (fun q hq _ => show q < o9 by omega)
  refine ⟨lM o9 oL9 oD9, e9, V9, fun _ _ => 0, .null, hMW.keptF (fun q h1 h2 => hF46.2 q (by omega) trivial), fun j _ => by show (0 : Nat) < 16777216; decide, hB, fun i _ => mg_S0 i, Or.inl ⟨rfl, rfl, fun q => Iff.rfl⟩, ⟨_, hAL⟩, ⟨_, hAD⟩, by omega, by omega, Or.inr (by omega), Or.inr (by omega), by omega, by omega, ⟨Or.inl (by omega), by omega, by omega⟩, ⟨Or.inl (by omega), by omega, by omega⟩, ⟨Or.inl (by omega), by omega, by omega⟩⟩
/-- six bits of an int -/
theorem iZ_63 (x : Int32) : ∃ k : Nat, k < 64 ∧ x &&& iZ 63 = iZ (k : Int) := by
  refine ⟨(x.toBitVec &&& 63#32).toNat, ?_, ?_⟩
  · rw [BitVec.toNat_and]
    exact Nat.lt_of_le_of_lt Nat.and_le_right (by decide)
  · apply Int32.toBitVec_inj.mp
    show x.toBitVec &&& 63#32 = BitVec.ofInt 32 _
    rw [BitVec.ofInt_natCast, BitVec.ofNat_toNat, BitVec.setWidth_eq]
