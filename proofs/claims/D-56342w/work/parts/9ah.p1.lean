set_option maxRecDepth 100000
set_option maxHeartbeats 1000000 in
theorem met_X1_init {w : pb_W} (l : Launch) {H0 : Heap} (b : Nat) (hzb : w.2.2.2 ≤ b) (hO : pb_O w H0 b 0 [.null, .null]) : pb_M w l yX1_init cX1_init 2 none 7 (18) (45) [.ref (b)] H0 (pb_qv (fun H1 => ∃ sl e V, BP w H1 (fun q => H0.size ≤ q) b sl e .null V (fun _ _ => 0) ∧ H0.size ≤ sl ∧ (e = w.2.2.1 0 ∨ H0.size ≤ e) ∧ pb_F (fun q => q < H0.size ∧ q ≠ b) H0 H1)) := by
  refine pb_of (by decide +kernel) (Nat.le_of_ble_eq_true rfl) ?_
  intro p_ e_ s_ m_ ar_ bl_ me_ co_ ls C hh hG hl
  have hl : lv_has ls 2 [(0, .ref (b))] := hl
  have hzs := hG.1
  have hg0 := hG.2.2.1
  have hFF : pb_F (fun q => q < H0.size ∧ q ≠ b) H0 H0 := pb_F.rf
  have hblt := hO.lt
  have L17 : ∀ (n_ : Nat) (sl e : Nat) (V : List Nat) (H : Heap), 8 - V.length = n_ → (pb_G w s_ H) → (V.length ≤ 8) → (pb_O w H b 0 [.ref sl, .null]) → (Lb w H w.2.2.2 sl e V) → (∀ i, i < V.length → Rq w H (fun q => q ≠ b ∧ q ≠ sl ∧ q ≠ e ∧ H0.size ≤ q) (nV V i) (fun _ => 0)) → (H0.size ≤ sl) → (e = w.2.2.1 0 ∨ H0.size ≤ e) → (pb_F (fun q => q < H0.size ∧ q ≠ b) H0 H) → ∀ (ls : Array Slot), lv_has ls 2 [(0, .ref (b)), (1, .int (iZ (((V.length : Nat) : Int))))] → pb_V w.2.2.2 p_ l e_ (pb_rm 7 (18) (45)) s_ m_ ar_ bl_ me_ co_ H ((8 - V.length) * 2 + (1 - lC V.length)) ((8 - V.length) * 4 + (10 - lS V.length)) (pb_E w bl_ ar_ s_ (18) (45) (pb_qv (fun H1 => ∃ sl e V, BP w H1 (fun q => H0.size ≤ q) b sl e .null V (fun _ _ => 0) ∧ H0.size ≤ sl ∧ (e = w.2.2.1 0 ∨ H0.size ≤ e) ∧ pb_F (fun q => q < H0.size ∧ q ≠ b) H0 H1))) (F0 m_ 17 ls []) := by
    intro n_
    induction n_ using Nat.strongRecOn with
    | _ n_ ih17 =>
    intro sl e V H hm_ hG hk hO hL hRg hsl he hFF ls hl
    have hbl := hO.lt
    have hsll := hL.2.1.lt
    have hel := hL.elt (by omega)
    refine pb_iload_n C dX1_init_17 rfl (lv_at hl 1 rfl) ?_
    refine pb_bip C dX1_init_18 (by decide) ?_
    refine pb_icmp_ge C dX1_init_20 (x := ((V.length : Nat) : Int)) (y := 8) (tgt := 46) (by decide) (by omega) (by omega) (fun c20_ => ?_) (fun c20_ => ?_)
    · exact pb_vret C dX1_init_46 (⟨rfl, sl, e, V, ⟨hO, hzb, hL, by omega, fun i hi => hRg i (by omega)⟩, hsl, he, hFF⟩)
    · refine pb_aload_n C dX1_init_23 rfl (lv_at hl 0 rfl) ?_
      refine pb_get C in_X1 hO.r (ci := 0) rfl 0 (by decide) q227 (fun _ h9 => h9) (v := .ref (sl)) rfl dX1_init_24 ?_
      have hlc := lc8 (show V.length < 8 from by omega)
      obtain ⟨r8, hr8⟩ : ∃ z1, z1 = H.size := ⟨_, rfl⟩
      refine pb_newE C in_X2 tyX2 tyX2_ok (ci := 1) rfl q130 q131 q55 (fs := [.null]) (by decide) (bc' := (8 - V.length) * 2 + (1 - lC V.length) - 1) (bs' := (8 - V.length) * 4 + (10 - lS V.length) - 1) (by omega) (by omega) dX1_init_27 fun a1_ H1_ ha_ hn_ hN1_ => ?_
      have hs1_ : H1_.size = H.size + 1 := hn_.1
      have hG := hG.kept (hn_.f.mono (fun _ _ _ => trivial))
      have hO := hO.kept (hn_.2 _ hO.lt)
      have hFF := hFF.tr (hn_.f.mono (fun _ _ _ => trivial))
      have hL := hL.kept (hn_.2 _ hL.2.1.lt) (fun h9 h8 => hn_.2 _ h8)
      have hRg : ∀ i, i < V.length → Rq w H1_ (fun q => (q ≠ b ∧ q ≠ sl ∧ q ≠ e ∧ H0.size ≤ q) ∧ q < H.size) (nV V i) (fun _ => 0) := fun i hi => ((hRg i hi).mono (fun q h9 hq => ⟨hq, h9⟩)).kept (hn_.f.mono (fun _ _ _ => trivial))
      obtain rfl : r8 = a1_ := by omega
      skip
      have hN := hN1_
      refine pb_dup C dX1_init_30 rfl ?_
      refine pb_go_v (bc' := (8 - V.length) * 2 + (1 - lC V.length) - 1 - 1) (bs' := (8 - V.length) * 4 + (10 - lS V.length) - 1 - 3) (pb_runIN (rest := [.ref (r8), .ref (sl)]) C hG (met_X2_init l r8 r8 (by omega) (Nat.le_refl _) hN) q132 q133 q55 q134 rfl hdX2_init rfl hl.1 rfl (Nat.le_of_ble_eq_true rfl) ⟨(Nat.le_of_ble_eq_true rfl), (Nat.le_of_ble_eq_true rfl)⟩ dX1_init_31) (by omega) (by omega) (fun H3 hp_ => ?_)
      obtain ⟨hRb, hF1⟩ := hp_
      have hs3 := hF1.1
      have hG := hG.kept (hF1.mono (fun q _ (hq : q < w.2.2.2) => Or.inl (by omega)))
      have hFF := hFF.tr (hF1.mono (fun q _ (hq : q < H0.size ∧ q ≠ b) => Or.inl (by have := hq.1; omega)))
      have hO := hO.kept (hF1.2 _ hO.lt (Or.inl (by omega)))
      have hL := hL.kept (hF1.2 _ hL.2.1.lt (Or.inl (by omega))) (fun h9 h8 => hF1.2 _ h8 (Or.inl (by omega)))
      have hRg : ∀ i, i < V.length → Rq w H3 (fun q => q ≠ b ∧ q ≠ sl ∧ q ≠ e ∧ H0.size ≤ q) (nV V i) (fun _ => 0) := fun i hi => ((hRg i hi).kept (hF1.mono (fun q _ hq => Or.inl (by have := hq.2; omega)))).mono (fun q _ hq => hq.1)
      have hQn := hRb.rq rs_nil gok_0 gc_0
      obtain ⟨fsl_, hLo⟩ := hL.o
      refine pb_go_i (bc' := (8 - V.length) * 2 + (1 - lC V.length) - 1 - 1 - (lC (V.length + 1) - lC V.length)) (bs' := (8 - V.length) * 4 + (10 - lS V.length) - 1 - 3 - (lS (V.length + 1) - lS V.length)) (pb_runF (n := 1) (rest := []) C hG (x := ⟨"java/util/List", "add", "(Ljava/lang/Object;)Z"⟩) (met_J2_add l w.2.2.2 sl e r8 V (Nat.le_refl _) hL hQn.el (by omega) (ini_el hRg) (by omega)) hLo (ci := 15) rfl (by decide) q146 q150 q152 q54 q154 (by decide +kernel) rfl hl.1 rfl (Nat.le_of_ble_eq_true rfl) ⟨(Nat.le_of_ble_eq_true rfl), (Nat.le_of_ble_eq_true rfl)⟩ dX1_init_34) (by omega) (by omega) (fun z_ H4 hp_ => ?_)
      obtain ⟨e1, he1, hL, hF2⟩ := hp_
      have hs4 := hF2.1
      have hG := hG.kept (hF2.mono (fun q _ (hq : q < w.2.2.2) => Or.inl hq))
      have hFF := hFF.tr (hF2.mono (fun q _ (hq : q < H0.size ∧ q ≠ b) => (Nat.lt_or_ge q w.2.2.2).elim Or.inl (fun h9 => Or.inr ⟨by have := hq.1; omega, by have := hq.1; omega⟩)))
      have hO := hO.kept (hF2.2 _ hO.lt (Or.inr ⟨by omega, by omega⟩))
      have hRg := ini_step hRg hQn he1 hF2 ⟨by omega, by omega, by omega, by omega⟩
      have hlen9 : (V ++ [r8]).length = V.length + 1 := by rw [List.length_append]; rfl
      have hlc9 : lC (V ++ [r8]).length = 1 ∧ lS (V ++ [r8]).length = 10 := by rw [hlen9]; exact ⟨hlc.1, hlc.2.1⟩
      refine pb_pop C dX1_init_39 rfl ?_
      refine pb_iinc C dX1_init_40 hl (j := 1) (x := (((V.length : Nat) : Int))) rfl (by decide) rfl fun ls hl => ?_
      have hl : lv_has ls 2 [(1, .int (iZ ((((V.length + 1) : Nat) : Int)))), (0, .ref (b))] := hl
      rw [show (((V.length + 1) : Nat) : Int) = (((V ++ [r8]).length : Nat) : Int) from (by rw [hlen9])] at hl
      refine pb_goto C dX1_init_43 (tgt := 17) (by decide) ?_
      exact pb_V.mono (by omega) (by omega) (ih17 _ (by omega) sl e1 (V ++ [r8]) H4 rfl hG (by rw [List.length_append, List.length_singleton]; omega) hO hL hRg (by omega) (by omega) hFF ls (lv_sub hl [1, 0] rfl))
  refine pb_aload_n C dX1_init_0 rfl (lv_at hl 0 rfl) ?_
  refine pb_objInit C q98 q99 q100 hl.1 ⟨(Nat.le_of_ble_eq_true rfl), (Nat.le_of_ble_eq_true rfl)⟩ dX1_init_1 ?_
  refine pb_aload_n C dX1_init_4 rfl (lv_at hl 0 rfl) ?_
  refine pb_newE C in_J2 tyJ2 tyJ2_ok (ci := 15) rfl q101 q102 q54 (fs := [.int (iZ (0)), .null, .int (iZ (0))]) (by decide) (bc' := 17) (bs' := 42) (by omega) (by omega) dX1_init_5 fun a2_ H2_ ha_ hn_ hN2_ => ?_
  have hs2_ : H2_.size = H0.size + 1 := hn_.1
  have hG := hG.kept (hn_.f.mono (fun _ _ _ => trivial))
  have hO := hO.kept (hn_.2 _ hO.lt)
  have hFF := hFF.tr (hn_.f.mono (fun _ _ _ => trivial))
  obtain rfl : a2_ = H0.size := by omega
  skip
  have hN := hN2_
  refine pb_dup C dX1_init_8 rfl ?_
  refine pb_go_v (bc' := 17) (bs' := 42) (pb_runI (rest := [.ref (H0.size), .ref (b)]) C hG (met_J2_init l w.2.2.2 H0.size (by omega) (by omega) hN) q103 q104 q54 q105 rfl hdJ2_init rfl hl.1 rfl (Nat.le_of_ble_eq_true rfl) ⟨(Nat.le_of_ble_eq_true rfl), (Nat.le_of_ble_eq_true rfl)⟩ dX1_init_9) (by omega) (by omega) (fun H2 hp_ => ?_)
  obtain ⟨hL, hF1⟩ := hp_
  have hs2 := hF1.1
  have hG := hG.kept (hF1.mono (fun q _ (hq : q < w.2.2.2) => show q ≠ _ from by omega))
  have hFF := hFF.tr (hF1.mono (fun q _ (hq : q < H0.size ∧ q ≠ b) => show q ≠ _ from by have := hq.1; omega))
  have hO := hO.kept (hF1.2 _ hO.lt (show b ≠ _ from by omega))
  refine pb_putF C in_X1 tyX1 tyX1_ok nmX1 hO (ci := 0) rfl 0 (by decide) q227 (fun _ h9 => h9) rfl rfl rfl (v := .ref (H0.size)) rfl rfl (Nat.le_of_ble_eq_true rfl) (by omega) dX1_init_12 fun H3_ hu_ hO => ?_
  have hO : pb_O w H3_ (b) 0 [.ref (H0.size), .null] := hO
  have hG := hG.kept (hu_.z (by omega))
  have hs_H3_ := hu_.1
  have hFF := hFF.tr (hu_.f.mono (fun q _ (hq : q < H0.size ∧ q ≠ b) => hq.2))
  have hL := hL.kept (hu_.2 _ (show H0.size ≠ b from by omega)) (fun h9 h8 => hu_.2 _ (show w.2.2.1 0 ≠ b from by omega))
  refine pb_ic C dX1_init_15 ?_
  refine pb_istore_n C dX1_init_16 rfl hl (by decide) rfl fun ls hl => ?_
  have hl : lv_has ls 2 [(1, .int (iZ (0))), (0, .ref (b))] := hl
  exact pb_V.mono (by omega) (by omega) (L17 _ H0.size (w.2.2.1 0) ([]) H3_ rfl hG (by decide) hO hL (fun i hi => absurd hi (Nat.not_lt_zero i)) (by omega) (Or.inl rfl) hFF ls (lv_sub hl [1, 0] rfl))

