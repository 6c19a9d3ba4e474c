set_option maxRecDepth 100000
set_option maxHeartbeats 1000000 in
theorem met_X1_checkRectangle {w : pb_W} (l : Launch) {H : Heap} (a b c d : Int) (h9 : (0 ≤ a ∧ 0 ≤ b) ∧ (c ≤ 24 ∧ d ≤ 24) ∧ a < c ∧ b < d) : pb_M w l yX1_checkRectangle cX1_checkRectangle 4 none 2 (0) (0) [.int (iZ (a)), .int (iZ (b)), .int (iZ (c)), .int (iZ (d))] H (pb_qn H) := by
  refine pb_of (by decide +kernel) (Nat.le_of_ble_eq_true rfl) ?_
  intro p_ e_ s_ m_ ar_ bl_ me_ co_ ls C hh hG hl
  have hl : lv_has ls 4 [(0, .int (iZ (a))), (1, .int (iZ (b))), (2, .int (iZ (c))), (3, .int (iZ (d)))] := hl
  refine pb_iload_n C dX1_checkRectangle_0 rfl (lv_at hl 0 rfl) ?_
  refine pb_iload_n C dX1_checkRectangle_1 rfl (lv_at hl 1 rfl) ?_
  refine pb_go_x (bc' := 0) (bs' := 0) (pb_runS (rest := []) C hG (met_X1_isPoint l a b (by omega) (by omega)) (lw_S q378 q379 q51 q380) hdX1_isPoint rfl hl.1 rfl (Nat.le_of_ble_eq_true rfl) ⟨(Nat.le_of_ble_eq_true rfl), (Nat.le_of_ble_eq_true rfl)⟩ dX1_checkRectangle_2) (by omega) (by omega) ?_
  refine pb_eq (g2 := F0 m_ 5 ls [.int (iZ (1))]) (congrArg (fun z9 => F0 m_ 5 ls [.int (iZ z9)]) (show (bI ((decide (0 ≤ a ∧ a ≤ 24) && decide (0 ≤ b ∧ b ≤ 24)))) = 1 from (bI_t (by rw [decide_eq_true (show 0 ≤ a ∧ a ≤ 24 from by omega), decide_eq_true (show 0 ≤ b ∧ b ≤ 24 from by omega)]; rfl)))) ?_
  refine pb_if_eq C dX1_checkRectangle_5 (x := 1) (tgt := 30) (by decide) (by omega) (fun c5_ => ?_) (fun c5_ => ?_)
  · exact absurd c5_ (by decide)
  · refine pb_iload_n C dX1_checkRectangle_8 rfl (lv_at hl 2 rfl) ?_
    refine pb_iload_n C dX1_checkRectangle_9 rfl (lv_at hl 3 rfl) ?_
    refine pb_go_x (bc' := 0) (bs' := 0) (pb_runS (rest := []) C hG (met_X1_isPoint l c d (by omega) (by omega)) (lw_S q378 q379 q51 q380) hdX1_isPoint rfl hl.1 rfl (Nat.le_of_ble_eq_true rfl) ⟨(Nat.le_of_ble_eq_true rfl), (Nat.le_of_ble_eq_true rfl)⟩ dX1_checkRectangle_10) (by omega) (by omega) ?_
    refine pb_eq (g2 := F0 m_ 13 ls [.int (iZ (1))]) (congrArg (fun z9 => F0 m_ 13 ls [.int (iZ z9)]) (show (bI ((decide (0 ≤ c ∧ c ≤ 24) && decide (0 ≤ d ∧ d ≤ 24)))) = 1 from (bI_t (by rw [decide_eq_true (show 0 ≤ c ∧ c ≤ 24 from by omega), decide_eq_true (show 0 ≤ d ∧ d ≤ 24 from by omega)]; rfl)))) ?_
    refine pb_if_eq C dX1_checkRectangle_13 (x := 1) (tgt := 30) (by decide) (by omega) (fun c13_ => ?_) (fun c13_ => ?_)
    · exact absurd c13_ (by decide)
    · refine pb_iload_n C dX1_checkRectangle_16 rfl (lv_at hl 0 rfl) ?_
      refine pb_iload_n C dX1_checkRectangle_17 rfl (lv_at hl 2 rfl) ?_
      refine pb_icmp_ge C dX1_checkRectangle_18 (x := a) (y := c) (tgt := 30) (by decide) (by omega) (by omega) (fun c18_ => ?_) (fun c18_ => ?_)
      · omega
      · refine pb_iload_n C dX1_checkRectangle_21 rfl (lv_at hl 1 rfl) ?_
        refine pb_iload_n C dX1_checkRectangle_22 rfl (lv_at hl 3 rfl) ?_
        refine pb_icmp_ge C dX1_checkRectangle_23 (x := b) (y := d) (tgt := 30) (by decide) (by omega) (by omega) (fun c23_ => ?_) (fun c23_ => ?_)
        · omega
        · refine pb_ic C dX1_checkRectangle_26 ?_
          refine pb_goto C dX1_checkRectangle_27 (tgt := 31) (by decide) ?_
          refine pb_go_n (bc' := 0) (bs' := 0) (pb_runS (rest := []) C hG (met_X1_checkArgument l) (lw_S q381 q382 q51 q383) hdX1_checkArgument rfl hl.1 rfl (Nat.le_of_ble_eq_true rfl) ⟨(Nat.le_of_ble_eq_true rfl), (Nat.le_of_ble_eq_true rfl)⟩ dX1_checkRectangle_31) (by omega) (by omega) ?_
          exact pb_vret C dX1_checkRectangle_34 (⟨rfl, rfl⟩)

set_option maxHeartbeats 1000000 in
theorem met_X1_put {w : pb_W} (l : Launch) {H0 : Heap} (M : Nat → Prop) (b sl e : Nat) (pv : Value) (V : List Nat) (G : Nat → Nat → Nat) (hB : BP w H0 M b sl e pv V G) (t : Nat) (ht : t < 8) (r : Nat) (P : Nat → Prop) (g : Nat → Nat) (hQ : Rq w H0 P r g) (hP : ∀ q, q < H0.size → P q → q ≠ b ∧ q ≠ sl ∧ q ≠ e ∧ M q) : pb_M w l yX1_put cX1_put 3 (some .int) 6 (2) (6) [.ref (b), .int (iZ (((t : Nat) : Int))), .ref (r)] H0 (pb_qi (fun z H1 => z = ((cnt g : Nat) : Int) ∧ BP w H1 M b sl e pv (V.set t r) (gup G t g) ∧ pb_F (fun q => q < H0.size ∧ q ≠ e) H0 H1)) := by
  refine pb_of (by decide +kernel) (Nat.le_of_ble_eq_true rfl) ?_
  intro p_ e_ s_ m_ ar_ bl_ me_ co_ ls C hh hG hl
  have hl : lv_has ls 3 [(0, .ref (b)), (1, .int (iZ (((t : Nat) : Int)))), (2, .ref (r))] := hl
  have hzs := hG.1
  have hba := hB.a
  have hbp := hB
  obtain ⟨hO, hzb, hL, hV8, hQQ⟩ := id hbp
  have hS := hB.sq
  obtain ⟨fsl_, hLo⟩ := hL.o
  have hFF : pb_F (fun q => q < H0.size) H0 H0 := pb_F.rf
  have hbe : b ≠ e := by
    rcases hL.2.2 with h9 | h9
    · rw [h9.1] at hV8; cases hV8
    · exact hO.r.ty.1.ne C.inj h9.2.2.b.ty (by decide) (by decide) (by decide)
  have hel : pb_El w H0 r := by
    obtain ⟨-, L9, hR9, -⟩ := hQ
    obtain ⟨fs9, hO9⟩ := hR9.o
    exact ⟨1, _, _, hO9, rfl, q2130⟩
  refine pb_aload_n C dX1_put_0 rfl (lv_at hl 0 rfl) ?_
  refine pb_get C in_X1 hO.r (ci := 0) rfl 0 (by decide) q227 (fun _ h9 => h9) (v := .ref (sl)) rfl dX1_put_1 ?_
  refine pb_iload_n C dX1_put_4 rfl (lv_at hl 1 rfl) ?_
  refine pb_aload_n C dX1_put_5 rfl (lv_at hl 2 rfl) ?_
  refine pb_go_r (bc' := 2) (bs' := 6) (pb_runF (n := 2) (rest := []) C hG (x := ⟨"java/util/List", "set", "(ILjava/lang/Object;)Ljava/lang/Object;"⟩) (met_J2_set l w.2.2.2 sl e r t V (Nat.le_refl _) hL (by omega) (by omega) hel) hLo (ci := 15) rfl (by decide) q721 q724 q726 q54 q728 (by decide +kernel) rfl hl.1 rfl (Nat.le_of_ble_eq_true rfl) ⟨(Nat.le_of_ble_eq_true rfl), (Nat.le_of_ble_eq_true rfl)⟩ dX1_put_6) (by omega) (by omega) (fun r9 H_ hp_ => ?_)
  obtain ⟨rfl, hL, hF1⟩ := hp_
  have hbe : b ≠ e := hbe
  have hQ1 := hQ.kept (hF1.mono (fun q hq9 hq => (hP q hq9 hq).2.2.1))
  have hB1 := hB.put ht hQ hP hL hF1 hbe
  have hG := hG.kept (hF1.mono (fun q _ (hq : q < w.2.2.2) => show q ≠ _ from by omega))
  obtain ⟨hg, L, hR, hr⟩ := id hQ1
  obtain ⟨fsr_, hRo⟩ := hR.o
  obtain ⟨hp1, hp2, hp3, hp4⟩ := rq_pre hg hr
  refine pb_pop C dX1_put_11 rfl ?_
  refine pb_aload_n C dX1_put_12 rfl (lv_at hl 2 rfl) ?_
  refine pb_go_i (bc' := 0) (bs' := 0) (pb_runV (rest := []) C hG (met_X2_area l r _ L hR hp1 hp2) hRo (ci := 1) rfl (lw_V q487 q488 q489 q55 q490) ⟨rfl, hdX2_area⟩ rfl hl.1 rfl (Nat.le_of_ble_eq_true rfl) ⟨(Nat.le_of_ble_eq_true rfl), (Nat.le_of_ble_eq_true rfl)⟩ dX1_put_13) (by omega) (by omega) (fun z_ H2 hp_ => ?_)
  obtain ⟨rfl, hF2⟩ := hp_
  exact pb_iret C dX1_put_16 (⟨_, rfl, (ar_area hr (gc_box hg)).trans (cN_cnt hg), hB1.kept hF2, (hF1.mono (fun q _ hq => hq.2)).tr (hF2.mono (fun q _ hq => show q < _ from by have := hF1.1; have := hq.1; omega))⟩)

set_option maxHeartbeats 1000000 in
theorem met_X1_clear {w : pb_W} (l : Launch) {H0 : Heap} (M : Nat → Prop) (b sl e : Nat) (pv : Value) (V : List Nat) (G : Nat → Nat → Nat) (hB : BP w H0 M b sl e pv V G) (hM : ∀ q, H0.size ≤ q → M q) (t : Nat) (ht : t < 8) : pb_M w l yX1_clear cX1_clear 3 (some .int) 7 (6) (16) [.ref (b), .int (iZ (((t : Nat) : Int)))] H0 (pb_qi (fun z H1 => z = ((cnt (G t) : Nat) : Int) ∧ (∃ r, BP w H1 M b sl e pv (V.set t r) (gup G t (fun _ => 0))) ∧ pb_F (fun q => q < H0.size ∧ q ≠ e) H0 H1)) := by
  refine pb_of (by decide +kernel) (Nat.le_of_ble_eq_true rfl) ?_
  intro p_ e_ s_ m_ ar_ bl_ me_ co_ ls C hh hG hl
  have hl : lv_has ls 3 [(0, .ref (b)), (1, .int (iZ (((t : Nat) : Int))))] := hl
  have hzs := hG.1
  have hba := hB.a
  have hbp := hB
  obtain ⟨hO, hzb, hL, hV8, hQQ⟩ := id hbp
  have hS := hB.sq
  obtain ⟨fsl_, hLo⟩ := hL.o
  have hFF : pb_F (fun q => q < H0.size) H0 H0 := pb_F.rf
  have hB0 := hB
  obtain ⟨hg, L, hR, hr⟩ := hS.2 t ht
  obtain ⟨fsr_, hRo⟩ := hR.o
  obtain ⟨hp1, hp2, hp3, hp4⟩ := rq_pre hg hr
  refine pb_aload_n C dX1_clear_0 rfl (lv_at hl 0 rfl) ?_
  refine pb_iload_n C dX1_clear_1 rfl (lv_at hl 1 rfl) ?_
  refine pb_go_x (bc' := 6) (bs' := 16) (pb_runV (rest := []) C hG (met_X1_region l b sl pv V _ G hS t ht) hO.r (ci := 0) rfl (lw_V q325 q327 qs4 q51 q328) ⟨rfl, hdX1_region⟩ rfl hl.1 rfl (Nat.le_of_ble_eq_true rfl) ⟨(Nat.le_of_ble_eq_true rfl), (Nat.le_of_ble_eq_true rfl)⟩ dX1_clear_2) (by omega) (by omega) ?_
  refine pb_go_i (bc' := 4) (bs' := 10) (pb_runV (rest := []) C hG (met_X2_area l (nV V t) _ L hR hp1 hp2) hRo (ci := 1) rfl (lw_V q487 q488 q489 q55 q490) ⟨rfl, hdX2_area⟩ rfl hl.1 rfl (Nat.le_of_ble_eq_true rfl) ⟨(Nat.le_of_ble_eq_true rfl), (Nat.le_of_ble_eq_true rfl)⟩ dX1_clear_5) (by omega) (by omega) (fun z_ H_ hp_ => ?_)
  obtain ⟨rfl, hF1⟩ := hp_
  have hFF := hFF.tr hF1
  have hG := hG.kept (hF1.mono (fun q _ (hq : q < w.2.2.2) => show q < _ from by omega))
  have hs9 := hF1.1
  have hB := hB.kept hF1
  have hS := hS.kept (hF1.mono (fun q hq _ => hq))
  have hO := hB.1
  obtain ⟨v8, hv8⟩ : ∃ z_ : Int, z_ = (scL arS L (0, 0) L.length).2 := ⟨_, rfl⟩
  refine pb_eq (g2 := F0 m_ 8 ls [.int (iZ (v8))]) (by rw [hv8]) ?_
  refine pb_istore_n C dX1_clear_8 rfl hl (by decide) rfl fun ls hl => ?_
  have hl : lv_has ls 3 [(2, .int (iZ (v8))), (0, .ref (b)), (1, .int (iZ (((t : Nat) : Int))))] := hl
  refine pb_aload_n C dX1_clear_9 rfl (lv_at hl 1 rfl) ?_
  refine pb_iload_n C dX1_clear_10 rfl (lv_at hl 2 rfl) ?_
  obtain ⟨z1, hz1⟩ : ∃ z1, z1 = H_.size := ⟨_, rfl⟩
  have hz2 : H0.size ≤ z1 := by rw [hz1]; exact hFF.1
  refine pb_newE C in_X2 tyX2 tyX2_ok (ci := 1) rfl q130 q131 q55 (fs := [.null]) (by decide) (bc' := 3) (bs' := 9) (by omega) (by omega) dX1_clear_11 fun a1_ H1_ ha_ hn_ hN1_ => ?_
  have hs1_ : H1_.size = H_.size + 1 := hn_.1
  have hG := hG.kept (hn_.f.mono (fun _ _ _ => trivial))
  have hO := hO.kept (hn_.2 _ hO.lt)
  have hS := hS.kept (hn_.f.mono (fun _ _ _ => trivial))
  have hB := hB.kept (hn_.f.mono (fun _ _ _ => trivial))
  have hFF := hFF.tr (hn_.f.mono (fun _ _ _ => trivial))
  obtain rfl : z1 = a1_ := by omega
  skip
  have hN := hN1_
  refine pb_dup C dX1_clear_14 rfl ?_
  refine pb_go_v (bc' := 2) (bs' := 6) (pb_runIN (rest := [.ref (z1), .int (iZ (((t : Nat) : Int))), .ref (b)]) C hG (met_X2_init l z1 z1 (by omega) (Nat.le_refl _) hN) q132 q133 q55 q134 rfl hdX2_init rfl hl.1 rfl (Nat.le_of_ble_eq_true rfl) ⟨(Nat.le_of_ble_eq_true rfl), (Nat.le_of_ble_eq_true rfl)⟩ dX1_clear_15) (by omega) (by omega) (fun H3 hp_ => ?_)
  obtain ⟨hRb, hF1⟩ := hp_
  have hFF := hFF.tr (hF1.mono (fun q _ (hq : q < H0.size) => Or.inl (by omega)))
  have hG := hG.kept (hF1.mono (fun q _ (hq : q < w.2.2.2) => Or.inl (by omega)))
  have hB := hB0.kept hFF
  have hba := hB0.a
  have hQn := hRb.rq rs_nil gok_0 gc_0
  have hO := hB.1
  refine pb_go_i (bc' := 0) (bs' := 0) (pb_runV (rest := []) C hG (met_X1_put l M b sl e pv V G hB t ht z1 _ (fun _ => 0) hQn (fun q _ hq => ⟨by have := hq.1; omega, by have := hq.1; omega, by have := hq.1; omega, hM q (by have := hq.1; omega)⟩)) hO.r (ci := 0) rfl (lw_V q716 q718 qs8 q51 q719) ⟨rfl, hdX1_put⟩ rfl hl.1 rfl (Nat.le_of_ble_eq_true rfl) ⟨(Nat.le_of_ble_eq_true rfl), (Nat.le_of_ble_eq_true rfl)⟩ dX1_clear_18) (by omega) (by omega) (fun z_ H9 hp_ => ?_)
  obtain ⟨rfl, hB, hF9⟩ := hp_
  have hFE : pb_F (fun q => q < H0.size ∧ q ≠ e) H0 H9 := (hFF.mono (fun q _ hq => hq.1)).tr (hF9.mono (fun q _ hq => (⟨by have := hFF.1; have := hq.1; omega, hq.2⟩ : q < _ ∧ q ≠ e)))
  refine pb_pop C dX1_clear_21 rfl ?_
  refine pb_iload_n C dX1_clear_22 rfl (lv_at hl 0 rfl) ?_
  exact pb_iret C dX1_clear_23 (⟨_, rfl, hv8.trans ((ar_area hr (gc_box hg)).trans (cN_cnt hg)), ⟨_, hB⟩, hFE⟩)

set_option maxHeartbeats 1000000 in
theorem met_X1_change {w : pb_W} (l : Launch) {H0 : Heap} (M : Nat → Prop) (b sl e : Nat) (pv : Value) (V : List Nat) (G : Nat → Nat → Nat) (hB : BP w H0 M b sl e pv V G) (hM : ∀ q, H0.size ≤ q → M q) (t : Nat) (ht : t < 8) (g : Nat → Nat) (hg9 : gok g) (o k : Nat) (hk : k < 4) (g2 : Nat → Nat) (hQo0 : Rq w H0 (fun q => q < H0.size) o g2) (he9 : ∀ x y, gc g x y = opk k (gc (G t) x y) (gc g2 x y)) : pb_M w l yX1_change cX1_change 5 (some .int) 9 (252) (3488) [.ref (b), .int (iZ (((t : Nat) : Int))), .ref (o), .ref ((w.2.2.1 (3 + k)))] H0 (pb_qi (fun z H1 => z = ((cnt g : Nat) : Int) - ((cnt (G t) : Nat) : Int) ∧ (∃ r, BP w H1 M b sl e pv (V.set t r) (gup G t g)) ∧ pb_F (fun q => q < H0.size ∧ q ≠ e) H0 H1)) := by
  refine pb_of (by decide +kernel) (Nat.le_of_ble_eq_true rfl) ?_
  intro p_ e_ s_ m_ ar_ bl_ me_ co_ ls C hh hG hl
  have hl : lv_has ls 5 [(0, .ref (b)), (1, .int (iZ (((t : Nat) : Int)))), (2, .ref (o)), (3, .ref ((w.2.2.1 (3 + k))))] := hl
  have hzs := hG.1
  have hba := hB.a
  have hbp := hB
  obtain ⟨hO, hzb, hL, hV8, hQQ⟩ := id hbp
  have hS := hB.sq
  obtain ⟨fsl_, hLo⟩ := hL.o
  have hFF : pb_F (fun q => q < H0.size) H0 H0 := pb_F.rf
  have hB0 := hB
  have hQo := hQo0
  obtain ⟨hg, L, hR, hr⟩ := hS.2 t ht
  obtain ⟨fsr_, hRo⟩ := hR.o
  obtain ⟨hp1, hp2, hp3, hp4⟩ := rq_pre hg hr
  refine pb_aload_n C dX1_change_0 rfl (lv_at hl 0 rfl) ?_
  refine pb_get C in_X1 hO.r (ci := 0) rfl 0 (by decide) q227 (fun _ h9 => h9) (v := .ref (sl)) rfl dX1_change_1 ?_
  refine pb_iload_n C dX1_change_4 rfl (lv_at hl 1 rfl) ?_
  obtain ⟨-, hBo9, hLr9, -⟩ := id hS.1
  obtain ⟨fsl9_, hLo9⟩ := hLr9.o
  refine pb_go_x (bc' := 252) (bs' := 3488) (pb_runF (n := 1) (rest := []) C hG (x := ⟨"java/util/List", "get", "(I)Ljava/lang/Object;"⟩) (met_J2_get l sl _ V hLr9 t (by omega)) hLo9 (ci := 15) rfl (by decide) q357 q360 q362 q54 q364 (by decide +kernel) rfl hl.1 rfl (Nat.le_of_ble_eq_true rfl) ⟨(Nat.le_of_ble_eq_true rfl), (Nat.le_of_ble_eq_true rfl)⟩ dX1_change_5) (by omega) (by omega) ?_
  refine pb_cast C hRo (ci := 1) rfl q130 dX1_change_10 ?_
  refine pb_go_i (bc' := 250) (bs' := 3482) (pb_runV (rest := []) C hG (met_X2_area l (nV V t) _ L hR hp1 hp2) hRo (ci := 1) rfl (lw_V q487 q488 q489 q55 q490) ⟨rfl, hdX2_area⟩ rfl hl.1 rfl (Nat.le_of_ble_eq_true rfl) ⟨(Nat.le_of_ble_eq_true rfl), (Nat.le_of_ble_eq_true rfl)⟩ dX1_change_13) (by omega) (by omega) (fun z_ H_ hp_ => ?_)
  obtain ⟨rfl, hF1⟩ := hp_
  have hFF := hFF.tr hF1
  have hG := hG.kept (hF1.mono (fun q _ (hq : q < w.2.2.2) => show q < _ from by omega))
  have hs9 := hF1.1
  have hB := hB.kept hF1
  have hS := hS.kept (hF1.mono (fun q hq _ => hq))
  have hO := hB.1
  have hR := hR.kept hF1
  obtain ⟨fsr_, hRo⟩ := hR.o
  have hQo := hQo.kept hF1
  have hO := hB.1
  obtain ⟨v8, hv8⟩ : ∃ z_ : Int, z_ = (scL arS L (0, 0) L.length).2 := ⟨_, rfl⟩
  refine pb_eq (g2 := F0 m_ 16 ls [.int (iZ (v8))]) (by rw [hv8]) ?_
  refine pb_istore C dX1_change_16 hl (by decide) rfl fun ls hl => ?_
  have hl : lv_has ls 5 [(4, .int (iZ (v8))), (0, .ref (b)), (1, .int (iZ (((t : Nat) : Int)))), (2, .ref (o)), (3, .ref ((w.2.2.1 (3 + k))))] := hl
  refine pb_aload_n C dX1_change_18 rfl (lv_at hl 1 rfl) ?_
  refine pb_iload_n C dX1_change_19 rfl (lv_at hl 2 rfl) ?_
  refine pb_aload_n C dX1_change_20 rfl (lv_at hl 1 rfl) ?_
  refine pb_get C in_X1 hO.r (ci := 0) rfl 0 (by decide) q227 (fun _ h9 => h9) (v := .ref (sl)) rfl dX1_change_21 ?_
  refine pb_iload_n C dX1_change_24 rfl (lv_at hl 2 rfl) ?_
  obtain ⟨-, hBo9, hLr9, -⟩ := id hS.1
  obtain ⟨fsl9_, hLo9⟩ := hLr9.o
  refine pb_go_x (bc' := 250) (bs' := 3482) (pb_runF (n := 1) (rest := [.int (iZ (((t : Nat) : Int))), .ref (b)]) C hG (x := ⟨"java/util/List", "get", "(I)Ljava/lang/Object;"⟩) (met_J2_get l sl _ V hLr9 t (by omega)) hLo9 (ci := 15) rfl (by decide) q357 q360 q362 q54 q364 (by decide +kernel) rfl hl.1 rfl (Nat.le_of_ble_eq_true rfl) ⟨(Nat.le_of_ble_eq_true rfl), (Nat.le_of_ble_eq_true rfl)⟩ dX1_change_25) (by omega) (by omega) ?_
  refine pb_cast C hRo (ci := 1) rfl q130 dX1_change_30 ?_
  refine pb_aload_n C dX1_change_33 rfl (lv_at hl 3 rfl) ?_
  refine pb_aload_n C dX1_change_34 rfl (lv_at hl 4 rfl) ?_
  refine pb_go_r (bc' := 2) (bs' := 6) (pb_runV (rest := [.int (iZ (((t : Nat) : Int))), .ref (b)]) C hG (met_X2_combine_g l (nV V t) o k hk _ _ (G t) g2 (hS.2 t ht) hQo) hRo (ci := 1) rfl (lw_V q664 q665 q666 q55 q667) ⟨rfl, hdX2_combine⟩ rfl hl.1 rfl (Nat.le_of_ble_eq_true rfl) ⟨(Nat.le_of_ble_eq_true rfl), (Nat.le_of_ble_eq_true rfl)⟩ dX1_change_35) (by omega) (by omega) (fun r9 H3 hp_ => ?_)
  obtain ⟨L9, hR9, hr9, hF1⟩ := hp_
  have hG := hG.kept (hF1.mono (fun q _ (hq : q < w.2.2.2) => show q < _ from by omega))
  have hFF2 := hFF.1
  have hFF := hFF.tr (hF1.mono (fun q _ (hq : q < H0.size) => show q < _ from by omega))
  have hB := hB.kept hF1
  have hQn : Rq w H3 _ r9 g := ⟨hg9, L9, hR9, rs_cong hr9 (fun x y => (he9 x y).symm)⟩
  have hO := hB.1
  refine pb_go_i (bc' := 0) (bs' := 0) (pb_runV (rest := []) C hG (met_X1_put l M b sl e pv V G hB t ht r9 _ g hQn (fun q _ hq => ⟨by have := hq.1; omega, by have := hq.1; omega, by have := hq.1; omega, hM q (by have := hq.1; omega)⟩)) hO.r (ci := 0) rfl (lw_V q716 q718 qs8 q51 q719) ⟨rfl, hdX1_put⟩ rfl hl.1 rfl (Nat.le_of_ble_eq_true rfl) ⟨(Nat.le_of_ble_eq_true rfl), (Nat.le_of_ble_eq_true rfl)⟩ dX1_change_38) (by omega) (by omega) (fun z_ H9 hp_ => ?_)
  obtain ⟨rfl, hB, hF9⟩ := hp_
  have hFE : pb_F (fun q => q < H0.size ∧ q ≠ e) H0 H9 := (hFF.mono (fun q _ hq => hq.1)).tr (hF9.mono (fun q _ hq => (⟨by have := hFF.1; have := hq.1; omega, hq.2⟩ : q < _ ∧ q ≠ e)))
  refine pb_iload C dX1_change_41 (lv_at hl 0 rfl) ?_
  refine pb_isub C dX1_change_43 ?_
  exact pb_iret C dX1_change_44 (⟨_, rfl, by rw [hv8, (ar_area hr (gc_box hg)).trans (cN_cnt hg)], ⟨_, hB⟩, hFE⟩)

set_option maxHeartbeats 1000000 in
theorem met_X1_fill {w : pb_W} (l : Launch) {H0 : Heap} (M : Nat → Prop) (b sl e : Nat) (pv : Value) (V : List Nat) (G : Nat → Nat → Nat) (hB : BP w H0 M b sl e pv V G) (hM : ∀ q, H0.size ≤ q → M q) (t : Nat) (ht : t < 8) (g : Nat → Nat) (hg9 : gok g) (a p c d : Nat) (h1 : a < c) (h2 : p < d) (h3 : c ≤ 24) (h4 : d ≤ 24) (he9 : ∀ x y, gc g x y = opk 0 (gc (G t) x y) (gc (bxg a p c d) x y)) : pb_M w l yX1_fill cX1_fill 6 (some .int) 10 (258) (3515) [.ref (b), .int (iZ (((t : Nat) : Int))), .int (iZ (((a : Nat) : Int))), .int (iZ (((p : Nat) : Int))), .int (iZ (((c : Nat) : Int))), .int (iZ (((d : Nat) : Int)))] H0 (pb_qi (fun z H1 => z = ((cnt g : Nat) : Int) - ((cnt (G t) : Nat) : Int) ∧ (∃ r, BP w H1 M b sl e pv (V.set t r) (gup G t g)) ∧ pb_F (fun q => q < H0.size ∧ q ≠ e) H0 H1)) := by
  refine pb_of (by decide +kernel) (Nat.le_of_ble_eq_true rfl) ?_
  intro p_ e_ s_ m_ ar_ bl_ me_ co_ ls C hh hG hl
  have hl : lv_has ls 6 [(0, .ref (b)), (1, .int (iZ (((t : Nat) : Int)))), (2, .int (iZ (((a : Nat) : Int)))), (3, .int (iZ (((p : Nat) : Int)))), (4, .int (iZ (((c : Nat) : Int)))), (5, .int (iZ (((d : Nat) : Int))))] := hl
  have hzs := hG.1
  have hba := hB.a
  have hbp := hB
  obtain ⟨hO, hzb, hL, hV8, hQQ⟩ := id hbp
  have hS := hB.sq
  obtain ⟨fsl_, hLo⟩ := hL.o
  have hFF : pb_F (fun q => q < H0.size) H0 H0 := pb_F.rf
  refine pb_aload_n C dX1_fill_0 rfl (lv_at hl 0 rfl) ?_
  refine pb_iload_n C dX1_fill_1 rfl (lv_at hl 1 rfl) ?_
  refine pb_go_x (bc' := 258) (bs' := 3515) (pb_runV (rest := []) C hG (met_X1_region l b sl pv V _ G hS t ht) hO.r (ci := 0) rfl (lw_V q325 q327 qs4 q51 q328) ⟨rfl, hdX1_region⟩ rfl hl.1 rfl (Nat.le_of_ble_eq_true rfl) ⟨(Nat.le_of_ble_eq_true rfl), (Nat.le_of_ble_eq_true rfl)⟩ dX1_fill_2) (by omega) (by omega) ?_
  refine pb_pop C dX1_fill_5 rfl ?_
  refine pb_iload_n C dX1_fill_6 rfl (lv_at hl 2 rfl) ?_
  refine pb_iload_n C dX1_fill_7 rfl (lv_at hl 3 rfl) ?_
  refine pb_iload C dX1_fill_8 (lv_at hl 4 rfl) ?_
  refine pb_iload C dX1_fill_10 (lv_at hl 5 rfl) ?_
  refine pb_go_n (bc' := 258) (bs' := 3515) (pb_runS (rest := []) C hG (met_X1_checkRectangle l (a : Int) (p : Int) (c : Int) (d : Int) (by omega)) (lw_S q375 q376 q51 q377) hdX1_checkRectangle rfl hl.1 rfl (Nat.le_of_ble_eq_true rfl) ⟨(Nat.le_of_ble_eq_true rfl), (Nat.le_of_ble_eq_true rfl)⟩ dX1_fill_12) (by omega) (by omega) ?_
  refine pb_aload_n C dX1_fill_15 rfl (lv_at hl 0 rfl) ?_
  refine pb_iload_n C dX1_fill_16 rfl (lv_at hl 1 rfl) ?_
  refine pb_iload_n C dX1_fill_17 rfl (lv_at hl 2 rfl) ?_
  refine pb_iload_n C dX1_fill_18 rfl (lv_at hl 3 rfl) ?_
  refine pb_iload C dX1_fill_19 (lv_at hl 4 rfl) ?_
  refine pb_iload C dX1_fill_21 (lv_at hl 5 rfl) ?_
  refine pb_go_r (bc' := 252) (bs' := 3488) (pb_runS (rest := [.int (iZ (((t : Nat) : Int))), .ref (b)]) C hG (met_X2_rectangle l (a : Int) (p : Int) (c : Int) (d : Int) (by omega) (by omega) (by omega) (by omega)) (lw_S q399 q400 q55 q401) hdX2_rectangle rfl hl.1 rfl (Nat.le_of_ble_eq_true rfl) ⟨(Nat.le_of_ble_eq_true rfl), (Nat.le_of_ble_eq_true rfl)⟩ dX1_fill_23) (by omega) (by omega) (fun r8 H_ hp_ => ?_)
  obtain ⟨hRb, hF1⟩ := hp_
  have hs9 := hF1.1
  have hG := hG.kept (hF1.mono (fun q _ (hq : q < w.2.2.2) => show q < _ from by omega))
  have hB := hB.kept hF1
  have hQ2 : Rq w H_ (fun q => q < H_.size) r8 (bxg a p c d) := hRb.bx h3 h4
  have hO := hB.1
  refine pb_gets C (n := "UNION") (v := .ref (w.2.2.1 3)) hG.2.2.2.2.2.2.2.2.2.1.1 q481 (fun _ h9 => h9) dX1_fill_26 ?_
  refine pb_go_i (bc' := 0) (bs' := 0) (pb_runV (rest := []) C hG (met_X1_change l M b sl e pv V G hB (fun q hq => hM q (by omega)) t ht g hg9 r8 0 (by decide) (bxg a p c d) hQ2 he9) hO.r (ci := 0) rfl (lw_V q483 q485 qs5 q51 q486) ⟨rfl, hdX1_change⟩ rfl hl.1 rfl (Nat.le_of_ble_eq_true rfl) ⟨(Nat.le_of_ble_eq_true rfl), (Nat.le_of_ble_eq_true rfl)⟩ dX1_fill_29) (by omega) (by omega) (fun z_ H9 hp_ => ?_)
  have hz9 := hp_.1
  have hB := hp_.2.1
  have hF9 := hp_.2.2
  exact pb_iret C dX1_fill_32 (⟨_, rfl, hz9, hB, (hF1.mono (fun q _ hq => hq.1)).tr (hF9.mono (fun q _ hq => (⟨by have := hq.1; omega, hq.2⟩ : q < _ ∧ q ≠ e)))⟩)

set_option maxHeartbeats 1000000 in
theorem met_X1_erase {w : pb_W} (l : Launch) {H0 : Heap} (M : Nat → Prop) (b sl e : Nat) (pv : Value) (V : List Nat) (G : Nat → Nat → Nat) (hB : BP w H0 M b sl e pv V G) (hM : ∀ q, H0.size ≤ q → M q) (t : Nat) (ht : t < 8) (g : Nat → Nat) (hg9 : gok g) (a p c d : Nat) (h1 : a < c) (h2 : p < d) (h3 : c ≤ 24) (h4 : d ≤ 24) (he9 : ∀ x y, gc g x y = opk 2 (gc (G t) x y) (gc (bxg a p c d) x y)) : pb_M w l yX1_erase cX1_erase 6 (some .int) 10 (258) (3515) [.ref (b), .int (iZ (((t : Nat) : Int))), .int (iZ (((a : Nat) : Int))), .int (iZ (((p : Nat) : Int))), .int (iZ (((c : Nat) : Int))), .int (iZ (((d : Nat) : Int)))] H0 (pb_qi (fun z H1 => z = ((cnt (G t) : Nat) : Int) - ((cnt g : Nat) : Int) ∧ (∃ r, BP w H1 M b sl e pv (V.set t r) (gup G t g)) ∧ pb_F (fun q => q < H0.size ∧ q ≠ e) H0 H1)) := by
  refine pb_of (by decide +kernel) (Nat.le_of_ble_eq_true rfl) ?_
  intro p_ e_ s_ m_ ar_ bl_ me_ co_ ls C hh hG hl
  have hl : lv_has ls 6 [(0, .ref (b)), (1, .int (iZ (((t : Nat) : Int)))), (2, .int (iZ (((a : Nat) : Int)))), (3, .int (iZ (((p : Nat) : Int)))), (4, .int (iZ (((c : Nat) : Int)))), (5, .int (iZ (((d : Nat) : Int))))] := hl
  have hzs := hG.1
  have hba := hB.a
  have hbp := hB
  obtain ⟨hO, hzb, hL, hV8, hQQ⟩ := id hbp
  have hS := hB.sq
  obtain ⟨fsl_, hLo⟩ := hL.o
  have hFF : pb_F (fun q => q < H0.size) H0 H0 := pb_F.rf
  refine pb_aload_n C dX1_erase_0 rfl (lv_at hl 0 rfl) ?_
  refine pb_iload_n C dX1_erase_1 rfl (lv_at hl 1 rfl) ?_
  refine pb_go_x (bc' := 258) (bs' := 3515) (pb_runV (rest := []) C hG (met_X1_region l b sl pv V _ G hS t ht) hO.r (ci := 0) rfl (lw_V q325 q327 qs4 q51 q328) ⟨rfl, hdX1_region⟩ rfl hl.1 rfl (Nat.le_of_ble_eq_true rfl) ⟨(Nat.le_of_ble_eq_true rfl), (Nat.le_of_ble_eq_true rfl)⟩ dX1_erase_2) (by omega) (by omega) ?_
  refine pb_pop C dX1_erase_5 rfl ?_
  refine pb_iload_n C dX1_erase_6 rfl (lv_at hl 2 rfl) ?_
  refine pb_iload_n C dX1_erase_7 rfl (lv_at hl 3 rfl) ?_
  refine pb_iload C dX1_erase_8 (lv_at hl 4 rfl) ?_
  refine pb_iload C dX1_erase_10 (lv_at hl 5 rfl) ?_
  refine pb_go_n (bc' := 258) (bs' := 3515) (pb_runS (rest := []) C hG (met_X1_checkRectangle l (a : Int) (p : Int) (c : Int) (d : Int) (by omega)) (lw_S q375 q376 q51 q377) hdX1_checkRectangle rfl hl.1 rfl (Nat.le_of_ble_eq_true rfl) ⟨(Nat.le_of_ble_eq_true rfl), (Nat.le_of_ble_eq_true rfl)⟩ dX1_erase_12) (by omega) (by omega) ?_
  refine pb_aload_n C dX1_erase_15 rfl (lv_at hl 0 rfl) ?_
  refine pb_iload_n C dX1_erase_16 rfl (lv_at hl 1 rfl) ?_
  refine pb_iload_n C dX1_erase_17 rfl (lv_at hl 2 rfl) ?_
  refine pb_iload_n C dX1_erase_18 rfl (lv_at hl 3 rfl) ?_
  refine pb_iload C dX1_erase_19 (lv_at hl 4 rfl) ?_
  refine pb_iload C dX1_erase_21 (lv_at hl 5 rfl) ?_
  refine pb_go_r (bc' := 252) (bs' := 3488) (pb_runS (rest := [.int (iZ (((t : Nat) : Int))), .ref (b)]) C hG (met_X2_rectangle l (a : Int) (p : Int) (c : Int) (d : Int) (by omega) (by omega) (by omega) (by omega)) (lw_S q399 q400 q55 q401) hdX2_rectangle rfl hl.1 rfl (Nat.le_of_ble_eq_true rfl) ⟨(Nat.le_of_ble_eq_true rfl), (Nat.le_of_ble_eq_true rfl)⟩ dX1_erase_23) (by omega) (by omega) (fun r8 H_ hp_ => ?_)
  obtain ⟨hRb, hF1⟩ := hp_
  have hs9 := hF1.1
  have hG := hG.kept (hF1.mono (fun q _ (hq : q < w.2.2.2) => show q < _ from by omega))
  have hB := hB.kept hF1
  have hQ2 : Rq w H_ (fun q => q < H_.size) r8 (bxg a p c d) := hRb.bx h3 h4
  have hO := hB.1
  refine pb_gets C (n := "DIFFERENCE") (v := .ref (w.2.2.1 5)) hG.2.2.2.2.2.2.2.2.2.2.2.1.1 q736 (fun _ h9 => h9) dX1_erase_26 ?_
  refine pb_go_i (bc' := 0) (bs' := 0) (pb_runV (rest := []) C hG (met_X1_change l M b sl e pv V G hB (fun q hq => hM q (by omega)) t ht g hg9 r8 2 (by decide) (bxg a p c d) hQ2 he9) hO.r (ci := 0) rfl (lw_V q483 q485 qs5 q51 q486) ⟨rfl, hdX1_change⟩ rfl hl.1 rfl (Nat.le_of_ble_eq_true rfl) ⟨(Nat.le_of_ble_eq_true rfl), (Nat.le_of_ble_eq_true rfl)⟩ dX1_erase_29) (by omega) (by omega) (fun z_ H9 hp_ => ?_)
  have hz9 := hp_.1
  have hB := hp_.2.1
  have hF9 := hp_.2.2
  refine pb_ineg C dX1_erase_32 ?_
  exact pb_iret C dX1_erase_33 (⟨_, rfl, by rw [hz9]; exact Int.neg_sub _ _, hB, (hF1.mono (fun q _ hq => hq.1)).tr (hF9.mono (fun q _ hq => (⟨by have := hq.1; omega, hq.2⟩ : q < _ ∧ q ≠ e)))⟩)

