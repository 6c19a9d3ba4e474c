set_option maxRecDepth 100000
set_option maxHeartbeats 1000000 in
theorem met_X15_init {w : pb_W} (l : Launch) {H0 : Heap} (z o : Nat) (hz : w.2.2.2 ≤ z) (hzo : z ≤ o) (hO : pb_O w H0 o 13 [.null, .null, .int (iZ 0)]) : pb_M w l yX15_init cX15_init 1 none 4 (2) (6) [.ref (o)] H0 (pb_qv (fun H1 => ∃ ya, H0.size < ya ∧ Ob w H1 z o H0.size (w.2.2.1 0) ya (w.2.2.1 0) [] 0 ∧ pb_F (fun q => q ≠ o) H0 H1)) := by
  refine pb_of (by decide +kernel) (Nat.le_of_ble_eq_true rfl) ?_
  intro p_ e_ s_ m_ ar_ bl_ me_ co_ ls C hh hG hl
  have hl : lv_has ls 1 [(0, .ref (o))] := hl
  have hzs := hG.1
  have hlt := hO.lt
  have hg0 := hG.2.2.1
  have hFF : pb_F (fun q => q ≠ o) H0 H0 := pb_F.rf
  refine pb_aload_n C dX15_init_0 rfl (lv_at hl 0 rfl) ?_
  refine pb_objInit C q1247 q99 q100 hl.1 ⟨(Nat.le_of_ble_eq_true rfl), (Nat.le_of_ble_eq_true rfl)⟩ dX15_init_1 ?_
  refine pb_aload_n C dX15_init_4 rfl (lv_at hl 0 rfl) ?_
  refine pb_newE C in_J2 tyJ2 tyJ2_ok (ci := 15) rfl q1248 q102 q54 (fs := [.int (iZ (0)), .null, .int (iZ (0))]) (by decide) (bc' := 1) (bs' := 3) (by omega) (by omega) dX15_init_5 fun a1_ H1_ ha_ hn_ hN1_ => ?_
  have hs1_ : H1_.size = H0.size + 1 := hn_.1
  have hG := hG.kept (hn_.f.mono (fun _ _ _ => trivial))
  have hO := hO.kept (hn_.2 _ hO.lt)
  have hFF := hFF.tr (hn_.f.mono (fun _ _ _ => trivial))
  obtain rfl : a1_ = H0.size := by omega
  skip
  have hN1 := hN1_
  refine pb_dup C dX15_init_8 rfl ?_
  refine pb_go_v (bc' := 1) (bs' := 3) (pb_runI (rest := [.ref (H0.size), .ref (o)]) C hG (met_J2_init l z H0.size (by omega) (by omega) hN1) q1249 q104 q54 q105 rfl hdJ2_init rfl hl.1 rfl (Nat.le_of_ble_eq_true rfl) ⟨(Nat.le_of_ble_eq_true rfl), (Nat.le_of_ble_eq_true rfl)⟩ dX15_init_9) (by omega) (by omega) (fun H_ hp_ => ?_)
  obtain ⟨hX, hF1⟩ := hp_
  have hs9 := hF1.1
  have hG := hG.kept (hF1.mono (fun q _ (hq : q < w.2.2.2) => show q ≠ _ from by omega))
  have hO := hO.kept (hF1.2 _ hO.lt (show o ≠ _ from by omega))
  have hFF : pb_F (fun q => q ≠ o) H0 H_ := ⟨by have := hFF.1; omega, fun q hq hp => (hF1.2 q (by have := hFF.1; omega) (show q ≠ _ from by have := hFF.1; omega)).trans (hFF.2 q hq hp)⟩
  refine pb_putF C in_X15 tyX15 tyX15_ok nmX15 hO (ci := 13) rfl 0 (by decide) q1250 (fun _ h9 => h9) rfl rfl rfl (v := .ref (H0.size)) rfl rfl (Nat.le_of_ble_eq_true rfl) (by omega) dX15_init_12 fun H2_ hu_ hO => ?_
  have hO : pb_O w H2_ (o) 13 [.ref (H0.size), .null, .int (iZ (0))] := hO
  have hG := hG.kept (hu_.z (by omega))
  have hs_H2_ := hu_.1
  have hFF := hFF.tr hu_.f
  have hX := hX.kept (hu_.2 _ (show H0.size ≠ o from by omega)) (fun h9 h8 => absurd h9 (by omega))
  refine pb_aload_n C dX15_init_15 rfl (lv_at hl 0 rfl) ?_
  refine pb_newE C in_J2 tyJ2 tyJ2_ok (ci := 15) rfl q1248 q102 q54 (fs := [.int (iZ (0)), .null, .int (iZ (0))]) (by decide) (bc' := 0) (bs' := 0) (by omega) (by omega) dX15_init_16 fun a3_ H3_ ha_ hn_ hN3_ => ?_
  have hs3_ : H3_.size = H2_.size + 1 := hn_.1
  have hG := hG.kept (hn_.f.mono (fun _ _ _ => trivial))
  have hO := hO.kept (hn_.2 _ hO.lt)
  have hFF := hFF.tr (hn_.f.mono (fun _ _ _ => trivial))
  have hX := hX.kept (hn_.2 _ hX.2.1.lt) (fun h9 h8 => absurd h9 (by omega))
  have a3__e : a3_ = H2_.size := ha_
  refine pb_dup C dX15_init_19 rfl ?_
  have hs8 := hFF.1
  refine pb_go_v (bc' := 0) (bs' := 0) (pb_runI (rest := [.ref (a3_), .ref (o)]) C hG (met_J2_init l z a3_ (by omega) (by omega) hN3_) q1249 q104 q54 q105 rfl hdJ2_init rfl hl.1 rfl (Nat.le_of_ble_eq_true rfl) ⟨(Nat.le_of_ble_eq_true rfl), (Nat.le_of_ble_eq_true rfl)⟩ dX15_init_20) (by omega) (by omega) (fun H_ hp_ => ?_)
  obtain ⟨hY, hF1⟩ := hp_
  have hs9 := hF1.1
  have hG := hG.kept (hF1.mono (fun q _ (hq : q < w.2.2.2) => show q ≠ _ from by omega))
  have hO := hO.kept (hF1.2 _ hO.lt (show o ≠ _ from by omega))
  have hX := hX.kept (hF1.2 _ hX.2.1.lt (show H0.size ≠ _ from by omega)) (fun h9 h8 => absurd h9 (by omega))
  have hFF : pb_F (fun q => q ≠ o) H0 H_ := ⟨by have := hFF.1; omega, fun q hq hp => (hF1.2 q (by have := hFF.1; omega) (show q ≠ _ from by have := hFF.1; omega)).trans (hFF.2 q hq hp)⟩
  refine pb_putF C in_X15 tyX15 tyX15_ok nmX15 hO (ci := 13) rfl 1 (by decide) q1252 (fun _ h9 => h9) rfl rfl rfl (v := .ref (a3_)) rfl rfl (Nat.le_of_ble_eq_true rfl) (by omega) dX15_init_23 fun H4_ hu_ hO => ?_
  have hO : pb_O w H4_ (o) 13 [.ref (H0.size), .ref (a3_), .int (iZ (0))] := hO
  have hG := hG.kept (hu_.z (by omega))
  have hs_H4_ := hu_.1
  have hFF := hFF.tr hu_.f
  have hX := hX.kept (hu_.2 _ (show H0.size ≠ o from by omega)) (fun h9 h8 => absurd h9 (by omega))
  have hY := hY.kept (hu_.2 _ (show _ ≠ o from by omega)) (fun h9 h8 => absurd h9 (by omega))
  exact pb_vret C dX15_init_26 (⟨rfl, _, (show H0.size < _ from by omega), ⟨hzo, hO, hX, hY, by omega, Or.inl rfl, fun d h9 => by cases h9⟩, hFF⟩)

set_option maxHeartbeats 2000000 in
theorem met_X15_addCorner {w : pb_W} (l : Launch) {H0 : Heap} (z o xa xe ya ye x y a : Nat) (C9 : List (Nat × Nat × Nat)) (ar : Int) (hz : w.2.2.2 ≤ z) (hOb : Ob w H0 z o xa xe ya ye C9 ar) (hx : x ≤ 24) (hy : y ≤ 24) (hn : C9.length < 1851) : pb_M w l yX15_addCorner cX15_addCorner 3 none 7 (2 * (lC (C9.length + 1) - lC C9.length)) (2 * (lS (C9.length + 1) - lS C9.length)) [.ref (o), .int (iZ (((x : Nat) : Int))), .int (iZ (((y : Nat) : Int)))] H0 (pb_qv (fun H1 => ∃ xe1 ye1, (xe1 = xe ∨ H0.size ≤ xe1) ∧ (ye1 = ye ∨ H0.size ≤ ye1) ∧ Ob w H1 z o xa xe1 ya ye1 (C9 ++ [(x, y, a)]) ar ∧ pb_F (fun q => q < z ∨ (q ≠ xa ∧ q ≠ xe ∧ q ≠ ya ∧ q ≠ ye)) H0 H1)) := by
  refine pb_of (by decide +kernel) (Nat.le_of_ble_eq_true rfl) ?_
  intro p_ e_ s_ m_ ar_ bl_ me_ co_ ls C hh hG hl
  have hl : lv_has ls 3 [(0, .ref (o)), (1, .int (iZ (((x : Nat) : Int)))), (2, .int (iZ (((y : Nat) : Int))))] := hl
  obtain ⟨hzo, hO, hL1, hL2, hxy, hxe, hC24⟩ := id hOb
  have hzs := hG.1
  have hg0 := hG.2.2.1
  have h0t : pb_Ty w H0 (w.2.2.1 0) 23 := hG.2.2.2.1.ty
  obtain ⟨hoxa, hoxe, hoya, hoye, hxaye, hyaxe, hexe, heye⟩ := hOb.ne C.inj h0t (by omega)
  obtain ⟨VX, hVX⟩ : ∃ VX, VX = (C9.map fun d => cB w d.1) := ⟨_, rfl⟩
  obtain ⟨VY, hVY⟩ : ∃ VY, VY = (C9.map fun d => cB w d.2.1) := ⟨_, rfl⟩
  rw [← hVX] at hL1
  rw [← hVY] at hL2
  have hlx : VX.length = C9.length := by rw [hVX]; exact List.length_map _
  have hly : VY.length = C9.length := by rw [hVY]; exact List.length_map _
  refine pb_aload_n C dX15_addCorner_0 rfl (lv_at hl 0 rfl) ?_
  refine pb_get C in_X15 hO.r (ci := 13) rfl 0 (by decide) q1250 (fun _ h9 => h9) (v := .ref (xa)) rfl dX15_addCorner_1 ?_
  refine pb_iload_n C dX15_addCorner_4 rfl (lv_at hl 1 rfl) ?_
  refine pb_go_x (bc' := 2 * (lC (C9.length + 1) - lC C9.length)) (bs' := 2 * (lS (C9.length + 1) - lS C9.length)) (pb_runS (rest := [.ref (xa)]) C hG (met_J19_valueOf_s l x (by omega)) (lw_S q1268 q1269 q84 q1270) hdJ19_valueOf rfl hl.1 rfl (Nat.le_of_ble_eq_true rfl) ⟨(Nat.le_of_ble_eq_true rfl), (Nat.le_of_ble_eq_true rfl)⟩ dX15_addCorner_5) (by omega) (by omega) ?_
  have hcb2 := (cB_at hG (x := x) (by omega)).2
  obtain ⟨fsl_, hLo⟩ := hL1.o
  have hel := cB_elF hG (C := C9) (fun d => d.1) (fun d hd => (hC24 d hd).1)
  rw [← hVX] at hel
  have hza := hL1.1
  have h9 := met_J2_add l z xa xe (cB w x) VX hz hL1 hcb2.El (Nat.ne_of_lt (Nat.lt_of_lt_of_le (cB_at hG (x := x) (by omega)).1 (Nat.le_trans hz hza))) hel (by rw [hlx]; exact hn)
  rw [hlx] at h9
  refine pb_go_i (bc' := 2 * (lC (C9.length + 1) - lC C9.length) - (lC (C9.length + 1) - lC C9.length)) (bs' := 2 * (lS (C9.length + 1) - lS C9.length) - (lS (C9.length + 1) - lS C9.length)) (pb_runF (n := 1) (rest := []) C hG (x := ⟨"java/util/List", "add", "(Ljava/lang/Object;)Z"⟩) (h9) hLo (ci := 15) rfl (by decide) q1289 q150 q152 q54 q154 (by decide +kernel) rfl hl.1 rfl (Nat.le_of_ble_eq_true rfl) ⟨(Nat.le_of_ble_eq_true rfl), (Nat.le_of_ble_eq_true rfl)⟩ dX15_addCorner_8) (by omega) (by omega) (fun z_ H_ hp_ => ?_)
  obtain ⟨xe1, hxe1, hL1, hF1⟩ := hp_
  have hz9 := hF1.1
  have hG := hG.kept (hF1.mono (fun q _ (hq : q < w.2.2.2) => Or.inl (by omega)))
  have hO := hO.kept (hF1.2 _ hO.lt (Or.inr ⟨hoxa, hoxe⟩))
  have hyel := hL2.elt (show w.2.2.1 0 < H0.size from by omega)
  have hxe2 := (hL1.ez (show w.2.2.1 0 < z from by omega)).mpr (by simp)
  have hxel := hL1.elt (show w.2.2.1 0 < H_.size from by omega)
  have hL2 := hL2.kept (hF1.2 _ hL2.2.1.lt (Or.inr ⟨Ne.symm hxy, hyaxe⟩)) (fun h9 h8 => hF1.2 _ h8 (Or.inr ⟨Ne.symm hxaye, Ne.symm (heye h9)⟩))
  have hxeye : xe1 ≠ ye := hxe1.elim (fun h9 => by rw [h9]; rw [h9] at hxe2; exact hexe hxe2) (fun h9 => by omega)
  refine pb_pop C dX15_addCorner_13 rfl ?_
  refine pb_aload_n C dX15_addCorner_14 rfl (lv_at hl 0 rfl) ?_
  refine pb_get C in_X15 hO.r (ci := 13) rfl 1 (by decide) q1252 (fun _ h9 => h9) (v := .ref (ya)) rfl dX15_addCorner_15 ?_
  refine pb_iload_n C dX15_addCorner_18 rfl (lv_at hl 2 rfl) ?_
  refine pb_go_x (bc' := 2 * (lC (C9.length + 1) - lC C9.length) - (lC (C9.length + 1) - lC C9.length)) (bs' := 2 * (lS (C9.length + 1) - lS C9.length) - (lS (C9.length + 1) - lS C9.length)) (pb_runS (rest := [.ref (ya)]) C hG (met_J19_valueOf_s l y (by omega)) (lw_S q1268 q1269 q84 q1270) hdJ19_valueOf rfl hl.1 rfl (Nat.le_of_ble_eq_true rfl) ⟨(Nat.le_of_ble_eq_true rfl), (Nat.le_of_ble_eq_true rfl)⟩ dX15_addCorner_19) (by omega) (by omega) ?_
  have hcb2 := (cB_at hG (x := y) (by omega)).2
  obtain ⟨fsl_, hLo⟩ := hL2.o
  have hel := cB_elF hG (C := C9) (fun d => d.2.1) (fun d hd => (hC24 d hd).2)
  rw [← hVY] at hel
  have hza := hL2.1
  have hyaxe1 : ya ≠ xe1 := hL2.2.1.r.ty.1.ne C.inj (hL1.ty hG.2.2.2.1.ty) (by decide) (by decide) (by decide)
  have h9 := met_J2_add l z ya ye (cB w y) VY hz hL2 hcb2.El (Nat.ne_of_lt (Nat.lt_of_lt_of_le (cB_at hG (x := y) (by omega)).1 (Nat.le_trans hz hza))) hel (by rw [hly]; exact hn)
  rw [hly] at h9
  refine pb_go_i (bc' := 2 * (lC (C9.length + 1) - lC C9.length) - (lC (C9.length + 1) - lC C9.length) - (lC (C9.length + 1) - lC C9.length)) (bs' := 2 * (lS (C9.length + 1) - lS C9.length) - (lS (C9.length + 1) - lS C9.length) - (lS (C9.length + 1) - lS C9.length)) (pb_runF (n := 1) (rest := []) C hG (x := ⟨"java/util/List", "add", "(Ljava/lang/Object;)Z"⟩) (h9) hLo (ci := 15) rfl (by decide) q1289 q150 q152 q54 q154 (by decide +kernel) rfl hl.1 rfl (Nat.le_of_ble_eq_true rfl) ⟨(Nat.le_of_ble_eq_true rfl), (Nat.le_of_ble_eq_true rfl)⟩ dX15_addCorner_22) (by omega) (by omega) (fun z_ H_ hp_ => ?_)
  obtain ⟨ye1, hye1, hL2, hF2⟩ := hp_
  have hz8 := hF2.1
  have hO := hO.kept (hF2.2 _ hO.lt (Or.inr ⟨hoya, hoye⟩))
  have hL1 := hL1.kept (hF2.2 _ hL1.2.1.lt (Or.inr ⟨hxy, hxaye⟩)) (fun h9 h8 => hF2.2 _ h8 (Or.inr ⟨Ne.symm hyaxe1, hxeye⟩))
  have hxy1 : xe1 ≠ ye1 := hye1.elim (fun h9 => by rw [h9]; exact hxeye) (fun h9 => by omega)
  refine pb_pop C dX15_addCorner_27 rfl ?_
  exact pb_vret C dX15_addCorner_28 (⟨rfl, xe1, ye1, hxe1, hye1.imp id (fun h9 => by omega), ⟨hzo, hO, (by rw [List.map_append, ← hVX]; exact hL1), (by rw [List.map_append, ← hVY]; exact hL2), hxy, Or.inr hxy1, (fun d hd => (List.mem_append.mp hd).elim (hC24 d) (fun h9 => by rw [List.mem_singleton.mp h9]; exact ⟨hx, hy⟩))⟩, ⟨by omega, fun q hq hp => (hF2.2 q (by omega) (hp.imp id (fun h => h.2.2))).trans (hF1.2 q hq (hp.imp id (fun h => ⟨h.1, h.2.1⟩)))⟩⟩)

