set_option maxRecDepth 100000
set_option maxHeartbeats 1000000 in
theorem met_X2_init {w : pb_W} (l : Launch) {H0 : Heap} (z a : Nat) (hz : w.2.2.2 ≤ z) (hza : z ≤ a) (hO : pb_O w H0 a 1 [.null]) : pb_M w l yX2_init cX2_init 1 none 4 (1) (3) [.ref (a)] H0 (pb_qv (fun H1 => Rb w H1 z a [] ∧ pb_F (fun q => q < z ∨ (q ≠ a ∧ q < H0.size)) H0 H1)) := by
  refine pb_of (by decide +kernel) (Nat.le_of_ble_eq_true rfl) ?_
  intro p_ e_ s_ m_ ar_ bl_ me_ co_ ls C hh hG hl
  have hl : lv_has ls 1 [(0, .ref (a))] := hl
  have hlt := hO.lt
  have hFF : pb_F (fun q => q < z ∨ (q ≠ a ∧ q < H0.size)) H0 H0 := pb_F.rf
  refine pb_aload_n C dX2_init_0 rfl (lv_at hl 0 rfl) ?_
  refine pb_objInit C q135 q99 q100 hl.1 ⟨(Nat.le_of_ble_eq_true rfl), (Nat.le_of_ble_eq_true rfl)⟩ dX2_init_1 ?_
  refine pb_aload_n C dX2_init_4 rfl (lv_at hl 0 rfl) ?_
  refine pb_newE C in_J2 tyJ2 tyJ2_ok (ci := 15) rfl q136 q102 q54 (fs := [.int (iZ (0)), .null, .int (iZ (0))]) (by decide) (bc' := 0) (bs' := 0) (by omega) (by omega) dX2_init_5 fun a1_ H1_ ha_ hn_ hN1_ => ?_
  have hs1_ : H1_.size = H0.size + 1 := hn_.1
  have hG := hG.kept (hn_.f.mono (fun _ _ _ => trivial))
  have hO := hO.kept (hn_.2 _ hO.lt)
  have hFF := hFF.tr (hn_.f.mono (fun _ _ _ => trivial))
  obtain rfl : a1_ = H0.size := by omega
  skip
  have hN := hN1_
  refine pb_dup C dX2_init_8 rfl ?_
  refine pb_go_v (bc' := 0) (bs' := 0) (pb_runI (rest := [.ref (H0.size), .ref (a)]) C hG (met_J2_init l z H0.size (by omega) (by omega) hN) q137 q104 q54 q105 rfl hdJ2_init rfl hl.1 rfl (Nat.le_of_ble_eq_true rfl) ⟨(Nat.le_of_ble_eq_true rfl), (Nat.le_of_ble_eq_true rfl)⟩ dX2_init_9) (by omega) (by omega) (fun H_ hp_ => ?_)
  obtain ⟨hLb, hF1⟩ := hp_
  have hG := hG.kept (hF1.mono (fun q _ (hq : q < w.2.2.2) => show q ≠ _ from by omega))
  have hO := hO.kept (hF1.2 _ hO.lt (by omega))
  have hFF := hFF.tr (hF1.mono (fun q _ (hq : q < z ∨ (q ≠ a ∧ q < H0.size)) => show q ≠ _ from by omega))
  have h0T : pb_Ty w H_ (w.2.2.1 0) 23 := hG.2.2.2.1.ty
  have hOty := hO.r.ty.1
  have hLb9 := hLb
  refine pb_putF C in_X2 tyX2 tyX2_ok nmX2 hO (ci := 1) rfl 0 (by decide) q139 (fun _ h9 => h9) rfl rfl rfl (v := .ref (H0.size)) rfl rfl (Nat.le_of_ble_eq_true rfl) (by omega) dX2_init_12 fun H2_ hu_ hO => ?_
  have hO : pb_O w H2_ (a) 1 [.ref (H0.size)] := hO
  have hG := hG.kept (hu_.z (by omega))
  have hs_H2_ := hu_.1
  have hFF := hFF.tr (hu_.f.mono (fun q _ hq => show q ≠ a from by rcases hq with h | h <;> omega))
  exact pb_vret C dX2_init_15 (⟨rfl, ⟨H0.size, w.2.2.1 0, [], hza, hO.r, hLb9.up C.inj h0T hOty (by decide) hu_, rfl, fun j hj => absurd hj (Nat.not_lt_zero _), fun i j hi => absurd hi (Nat.not_lt_zero _)⟩, hFF⟩)

set_option maxHeartbeats 1000000 in
theorem met_X2_add_0 {w : pb_W} (l : Launch) {H0 : Heap} (z a s : Nat) (L : List Bnd) (E : List Int) (lo_ hi_ : Int) (hz : w.2.2.2 ≤ z) (hR : Rb w H0 z a L) (P : Nat → Prop) (hS : Sp w H0 P s E) (hlo : -1000 ≤ lo_ ∧ lo_ ≤ 1000) (hhi : -1000 ≤ hi_ ∧ hi_ ≤ 1000) (hn : L.length < 1851) (h9 : rE lo_ hi_ E) : pb_M w l yX2_add cX2_add 5 none 7 (0) (0) [.ref (a), .int (iZ (lo_)), .int (iZ (hi_)), .ref (s)] H0 (pb_qv (fun H1 => Rb w H1 z a (radd L lo_ hi_ E) ∧ pb_F (fA w H0 z) H0 H1)) := by
  refine pb_of (by decide +kernel) (Nat.le_of_ble_eq_true rfl) ?_
  intro p_ e_ s_ m_ ar_ bl_ me_ co_ ls C hh hG hl
  have hl : lv_has ls 5 [(0, .ref (a)), (1, .int (iZ (lo_))), (2, .int (iZ (hi_))), (3, .ref (s))] := hl
  obtain ⟨t, e, V, hza, hO, hLb, hVn, hB, hd⟩ := id hR
  have hz0 := hG.1
  have hg0 := hG.2.2.1
  have h0T : pb_Ty w H0 (w.2.2.1 0) 23 := hG.2.2.2.1.ty
  obtain ⟨fsS_, hSo⟩ := hS.o
  have hLr := hLb.r (by omega)
  obtain ⟨fsL_, hLo⟩ := hLr.o
  have htlt := hLb.2.1.lt
  have hE64 := hS.rg.2
  have hzl : z ≤ H0.size := by have := hza; have := hO.lt; omega
  have hlc : lC (V.length + 1) - lC V.length = lC (L.length + 1) - lC L.length := by rw [hVn]
  have hls9 : lS (V.length + 1) - lS V.length = lS (L.length + 1) - lS L.length := by rw [hVn]
  have hO0 := hO
  refine pb_iload_n C dX2_add_0 rfl (lv_at hl 1 rfl) ?_
  refine pb_iload_n C dX2_add_1 rfl (lv_at hl 2 rfl) ?_
  refine pb_icmp_ge C dX2_add_2 (x := lo_) (y := hi_) (tgt := 12) (by decide) (by omega) (by omega) (fun c2_ => ?_) (fun c2_ => ?_)
  · exact pb_vret C dX2_add_12 (⟨rfl, by rw [show radd L lo_ hi_ E = L from if_pos h9]; exact hR, pb_F.rf⟩)
  · have h99 : E.length / 2 = 0 := by rcases h9 with h | h <;> omega
    refine pb_aload_n C dX2_add_5 rfl (lv_at hl 3 rfl) ?_
    refine pb_go_x (bc' := 0) (bs' := 0) (pb_runV (rest := []) C hG (met_X4_size l s _ E hS) hSo (ci := 3) rfl (lw_V q427 q428 q429 q70 q430) ⟨rfl, hdX4_size⟩ rfl hl.1 rfl (Nat.le_of_ble_eq_true rfl) ⟨(Nat.le_of_ble_eq_true rfl), (Nat.le_of_ble_eq_true rfl)⟩ dX2_add_6) (by omega) (by omega) ?_
    refine pb_if_ne C dX2_add_9 (x := (((E.length / 2) : Nat) : Int)) (tgt := 13) (by decide) (by omega) (fun c9_ => ?_) (fun c9_ => ?_)
    · omega
    · exact pb_vret C dX2_add_12 (⟨rfl, by rw [show radd L lo_ hi_ E = L from if_pos h9]; exact hR, pb_F.rf⟩)

set_option maxHeartbeats 1000000 in
theorem met_X2_add_1 {w : pb_W} (l : Launch) {H0 : Heap} (z a s : Nat) (L : List Bnd) (E : List Int) (lo_ hi_ : Int) (hz : w.2.2.2 ≤ z) (hR : Rb w H0 z a L) (hS : Sp w H0 (fun q => z ≤ q) s E) (hlo : -1000 ≤ lo_ ∧ lo_ ≤ 1000) (hhi : -1000 ≤ hi_ ∧ hi_ ≤ 1000) (hn : L.length < 1851) (hn9 : ¬ rE lo_ hi_ E) (hj : rJ L lo_ E) : pb_M w l yX2_add cX2_add 5 none 7 (0) (0) [.ref (a), .int (iZ (lo_)), .int (iZ (hi_)), .ref (s)] H0 (pb_qv (fun H1 => Rb w H1 z a (radd L lo_ hi_ E) ∧ pb_F (fA w H0 z) H0 H1)) := by
  refine pb_of (by decide +kernel) (Nat.le_of_ble_eq_true rfl) ?_
  intro p_ e_ s_ m_ ar_ bl_ me_ co_ ls C hh hG hl
  have hl : lv_has ls 5 [(0, .ref (a)), (1, .int (iZ (lo_))), (2, .int (iZ (hi_))), (3, .ref (s))] := hl
  obtain ⟨t, e, V, hza, hO, hLb, hVn, hB, hd⟩ := id hR
  have hz0 := hG.1
  have hg0 := hG.2.2.1
  have h0T : pb_Ty w H0 (w.2.2.1 0) 23 := hG.2.2.2.1.ty
  obtain ⟨fsS_, hSo⟩ := hS.o
  have hLr := hLb.r (by omega)
  obtain ⟨fsL_, hLo⟩ := hLr.o
  have htlt := hLb.2.1.lt
  have hE64 := hS.rg.2
  have hzl : z ≤ H0.size := by have := hza; have := hO.lt; omega
  have hlc : lC (V.length + 1) - lC V.length = lC (L.length + 1) - lC L.length := by rw [hVn]
  have hls9 : lS (V.length + 1) - lS V.length = lS (L.length + 1) - lS L.length := by rw [hVn]
  have hO0 := hO
  have hj0 := hj.1
  have hj1 : (bd L (V.length - 1)).2.1 = lo_ := by rw [hVn]; exact hj.2.1
  have hj2 : (bd L (V.length - 1)).2.2 = E := by rw [hVn]; exact hj.2.2
  have hnL : ¬ hi_ ≤ lo_ := fun h => hn9 (Or.inl h)
  have hnE : ¬ E.length / 2 = 0 := fun h => hn9 (Or.inr h)
  refine pb_iload_n C dX2_add_0 rfl (lv_at hl 1 rfl) ?_
  refine pb_iload_n C dX2_add_1 rfl (lv_at hl 2 rfl) ?_
  refine pb_icmp_ge C dX2_add_2 (x := lo_) (y := hi_) (tgt := 12) (by decide) (by omega) (by omega) (fun c2_ => ?_) (fun c2_ => ?_)
  · omega
  · refine pb_aload_n C dX2_add_5 rfl (lv_at hl 3 rfl) ?_
    refine pb_go_x (bc' := 0) (bs' := 0) (pb_runV (rest := []) C hG (met_X4_size l s _ E hS) hSo (ci := 3) rfl (lw_V q427 q428 q429 q70 q430) ⟨rfl, hdX4_size⟩ rfl hl.1 rfl (Nat.le_of_ble_eq_true rfl) ⟨(Nat.le_of_ble_eq_true rfl), (Nat.le_of_ble_eq_true rfl)⟩ dX2_add_6) (by omega) (by omega) ?_
    refine pb_if_ne C dX2_add_9 (x := (((E.length / 2) : Nat) : Int)) (tgt := 13) (by decide) (by omega) (fun c9_ => ?_) (fun c9_ => ?_)
    · refine pb_aload_n C dX2_add_13 rfl (lv_at hl 0 rfl) ?_
      refine pb_get C in_X2 hO (ci := 1) rfl 0 (by decide) q139 (fun _ h9 => h9) (v := .ref (t)) rfl dX2_add_14 ?_
      refine pb_go_x (bc' := 0) (bs' := 0) (pb_runF (n := 0) (rest := []) C hG (x := ⟨"java/util/List", "isEmpty", "()Z"⟩) (met_J2_isEmpty l t _ V hLr) hLo (ci := 15) rfl (by decide) q432 q435 q437 q54 q439 (by decide +kernel) rfl hl.1 rfl (Nat.le_of_ble_eq_true rfl) ⟨(Nat.le_of_ble_eq_true rfl), (Nat.le_of_ble_eq_true rfl)⟩ dX2_add_17) (by omega) (by omega) ?_
      refine pb_ifB_eq C dX2_add_22 (tgt := 29) (by decide) (fun c22_ => ?_) (fun c22_ => ?_)
      · have c22_ := of_decide_eq_false c22_
        refine pb_aload_n C dX2_add_29 rfl (lv_at hl 0 rfl) ?_
        refine pb_get C in_X2 hO (ci := 1) rfl 0 (by decide) q139 (fun _ h9 => h9) (v := .ref (t)) rfl dX2_add_30 ?_
        refine pb_aload_n C dX2_add_33 rfl (lv_at hl 0 rfl) ?_
        refine pb_get C in_X2 hO (ci := 1) rfl 0 (by decide) q139 (fun _ h9 => h9) (v := .ref (t)) rfl dX2_add_34 ?_
        refine pb_go_x (bc' := 0) (bs' := 0) (pb_runF (n := 0) (rest := [.ref (t)]) C hG (x := ⟨"java/util/List", "size", "()I"⟩) (met_J2_size l t _ V hLr) hLo (ci := 15) rfl (by decide) q441 q444 q446 q54 q448 (by decide +kernel) rfl hl.1 rfl (Nat.le_of_ble_eq_true rfl) ⟨(Nat.le_of_ble_eq_true rfl), (Nat.le_of_ble_eq_true rfl)⟩ dX2_add_37) (by omega) (by omega) ?_
        refine pb_ic C dX2_add_42 ?_
        refine pb_isub C dX2_add_43 ?_
        refine pb_eq (g2 := F0 m_ 44 ls [.int (iZ ((((V.length - 1) : Nat) : Int))), .ref (t)]) (congrArg (fun z9 => F0 m_ 44 ls [.int (iZ z9), .ref (t)]) (show (((V.length : Nat) : Int) - 1) = (((V.length - 1) : Nat) : Int) from (by omega))) ?_
        refine pb_go_x (bc' := 0) (bs' := 0) (pb_runF (n := 1) (rest := []) C hG (x := ⟨"java/util/List", "get", "(I)Ljava/lang/Object;"⟩) (met_J2_get l t _ V hLr (V.length - 1) (by omega)) hLo (ci := 15) rfl (by decide) q450 q360 q362 q54 q364 (by decide +kernel) rfl hl.1 rfl (Nat.le_of_ble_eq_true rfl) ⟨(Nat.le_of_ble_eq_true rfl), (Nat.le_of_ble_eq_true rfl)⟩ dX2_add_44) (by omega) (by omega) ?_
        obtain ⟨hzb, s9, hOb, hS9, hb1, hb2⟩ := hB (V.length - 1) (by omega)
        obtain ⟨fs9_, hS9o⟩ := hS9.o
        refine pb_cast C hOb.r (ci := 4) rfl q451 dX2_add_49 ?_
        refine pb_astore C dX2_add_52 hl (by decide) rfl fun ls hl => ?_
        have hl : lv_has ls 5 [(4, .ref ((nV V (V.length - 1)))), (0, .ref (a)), (1, .int (iZ (lo_))), (2, .int (iZ (hi_))), (3, .ref (s))] := hl
        refine pb_aload C dX2_add_54 (lv_at hl 0 rfl) ?_
        refine pb_ifnull C dX2_add_56 ?_
        refine pb_aload C dX2_add_59 (lv_at hl 0 rfl) ?_
        refine pb_getN C in_X5 hOb.r (ci := 4) rfl 2 (by decide) q471 (fun _ h9 => h9) (v := .int (iZ ((bd L (V.length - 1)).2.1))) rfl dX2_add_61 ?_
        refine pb_iload_n C dX2_add_64 rfl (lv_at hl 2 rfl) ?_
        refine pb_icmp_ne C dX2_add_65 (x := (bd L (V.length - 1)).2.1) (y := lo_) (tgt := 89) (by decide) (by omega) (by omega) (fun c65_ => ?_) (fun c65_ => ?_)
        · exact absurd hj1 c65_
        · refine pb_aload C dX2_add_68 (lv_at hl 0 rfl) ?_
          refine pb_getN C in_X5 hOb.r (ci := 4) rfl 1 (by decide) q468 (fun _ h9 => h9) (v := .ref (s9)) rfl dX2_add_70 ?_
          refine pb_aload_n C dX2_add_73 rfl (lv_at hl 4 rfl) ?_
          refine pb_go_x (bc' := 0) (bs' := 0) (pb_runV (rest := []) C hG (met_X4_isSame l s9 _ _ hS9 s _ E hS) hS9o (ci := 3) rfl (lw_V q452 q453 q454 q70 q455) ⟨rfl, hdX4_isSame⟩ rfl hl.1 rfl (Nat.le_of_ble_eq_true rfl) ⟨(Nat.le_of_ble_eq_true rfl), (Nat.le_of_ble_eq_true rfl)⟩ dX2_add_74) (by omega) (by omega) ?_
          refine pb_ifB_eq C dX2_add_77 (tgt := 89) (by decide) (fun c77_ => ?_) (fun c77_ => ?_)
          · have c77_ := of_decide_eq_false c77_
            exact absurd hj2 c77_
          · have c77_ := of_decide_eq_true c77_
            refine pb_aload C dX2_add_80 (lv_at hl 0 rfl) ?_
            refine pb_iload_n C dX2_add_82 rfl (lv_at hl 3 rfl) ?_
            have hbt := hOb.r.ty.1
            refine pb_putN C in_X5 tyX5 tyX5_ok nmX5 hOb (ci := 4) rfl 2 (by decide) q471 (fun _ h9 => h9) rfl (v := .int (iZ (hi_))) rfl rfl (Nat.le_of_ble_eq_true rfl) (by omega) dX2_add_83 fun H1_ hu_ hOb => ?_
            have hOb : pb_O w H1_ ((nV V (V.length - 1))) 4 [.int (iZ ((bd L (V.length - 1)).1)), .ref (s9), .int (iZ (hi_))] := hOb
            have hG := hG.kept (hu_.z (by omega))
            have hs_H1_ := hu_.1
            have hO := hO.kept (hu_.2 _ (hO.ty.1.ne C.inj hbt (by decide) (by decide) (by decide)))
            refine pb_goto C dX2_add_86 (tgt := 109) (by decide) ?_
            exact pb_vret C dX2_add_109 (⟨rfl, by rw [show radd L lo_ hi_ E = L.dropLast ++ [((bd L (L.length - 1)).1, hi_, E)] from (if_neg hn9).trans (if_pos hj)]; exact Rb_set hza hO (hLb.up C.inj h0T hbt (by decide) hu_) hVn hj0 (fun j hj9 => (hB j (by omega)).up C.inj hbt (hd _ _ (by omega) (by omega) (by omega)) hu_) hd (by rw [← hVn]; exact ⟨hzb, s9, hOb, (by rw [← hj2]; exact hS9.up C.inj hbt (by decide) hu_), hb1, hhi⟩), fA.up C.inj hbt hzb hu_⟩)
      · have c22_ := of_decide_eq_true c22_
        omega
    · omega

set_option maxHeartbeats 1000000 in
theorem met_X2_add_2 {w : pb_W} (l : Launch) {H0 : Heap} (z a s : Nat) (L : List Bnd) (E : List Int) (lo_ hi_ : Int) (hz : w.2.2.2 ≤ z) (hR : Rb w H0 z a L) (hS : Sp w H0 (fun q => z ≤ q) s E) (hlo : -1000 ≤ lo_ ∧ lo_ ≤ 1000) (hhi : -1000 ≤ hi_ ∧ hi_ ≤ 1000) (hn : L.length < 1851) (hn9 : ¬ rE lo_ hi_ E) (hj : ¬ rJ L lo_ E) : pb_M w l yX2_add cX2_add 5 none 7 (1 + (lC (L.length + 1) - lC L.length)) (3 + (lS (L.length + 1) - lS L.length)) [.ref (a), .int (iZ (lo_)), .int (iZ (hi_)), .ref (s)] H0 (pb_qv (fun H1 => Rb w H1 z a (radd L lo_ hi_ E) ∧ pb_F (fA w H0 z) H0 H1)) := by
  refine pb_of (by decide +kernel) (Nat.le_of_ble_eq_true rfl) ?_
  intro p_ e_ s_ m_ ar_ bl_ me_ co_ ls C hh hG hl
  have hl : lv_has ls 5 [(0, .ref (a)), (1, .int (iZ (lo_))), (2, .int (iZ (hi_))), (3, .ref (s))] := hl
  obtain ⟨t, e, V, hza, hO, hLb, hVn, hB, hd⟩ := id hR
  have hz0 := hG.1
  have hg0 := hG.2.2.1
  have h0T : pb_Ty w H0 (w.2.2.1 0) 23 := hG.2.2.2.1.ty
  obtain ⟨fsS_, hSo⟩ := hS.o
  have hLr := hLb.r (by omega)
  obtain ⟨fsL_, hLo⟩ := hLr.o
  have htlt := hLb.2.1.lt
  have hE64 := hS.rg.2
  have hzl : z ≤ H0.size := by have := hza; have := hO.lt; omega
  have hlc : lC (V.length + 1) - lC V.length = lC (L.length + 1) - lC L.length := by rw [hVn]
  have hls9 : lS (V.length + 1) - lS V.length = lS (L.length + 1) - lS L.length := by rw [hVn]
  have hO0 := hO
  have hnL : ¬ hi_ ≤ lo_ := fun h => hn9 (Or.inl h)
  have hnE : ¬ E.length / 2 = 0 := fun h => hn9 (Or.inr h)
  have hte := hLb.ty h0T
  have htt := hLb.2.1.r.ty.1
  refine pb_iload_n C dX2_add_0 rfl (lv_at hl 1 rfl) ?_
  refine pb_iload_n C dX2_add_1 rfl (lv_at hl 2 rfl) ?_
  refine pb_icmp_ge C dX2_add_2 (x := lo_) (y := hi_) (tgt := 12) (by decide) (by omega) (by omega) (fun c2_ => ?_) (fun c2_ => ?_)
  · omega
  · refine pb_aload_n C dX2_add_5 rfl (lv_at hl 3 rfl) ?_
    refine pb_go_x (bc' := 1 + (lC (L.length + 1) - lC L.length)) (bs' := 3 + (lS (L.length + 1) - lS L.length)) (pb_runV (rest := []) C hG (met_X4_size l s _ E hS) hSo (ci := 3) rfl (lw_V q427 q428 q429 q70 q430) ⟨rfl, hdX4_size⟩ rfl hl.1 rfl (Nat.le_of_ble_eq_true rfl) ⟨(Nat.le_of_ble_eq_true rfl), (Nat.le_of_ble_eq_true rfl)⟩ dX2_add_6) (by omega) (by omega) ?_
    refine pb_if_ne C dX2_add_9 (x := (((E.length / 2) : Nat) : Int)) (tgt := 13) (by decide) (by omega) (fun c9_ => ?_) (fun c9_ => ?_)
    · refine pb_aload_n C dX2_add_13 rfl (lv_at hl 0 rfl) ?_
      refine pb_get C in_X2 hO (ci := 1) rfl 0 (by decide) q139 (fun _ h9 => h9) (v := .ref (t)) rfl dX2_add_14 ?_
      refine pb_go_x (bc' := 1 + (lC (L.length + 1) - lC L.length)) (bs' := 3 + (lS (L.length + 1) - lS L.length)) (pb_runF (n := 0) (rest := []) C hG (x := ⟨"java/util/List", "isEmpty", "()Z"⟩) (met_J2_isEmpty l t _ V hLr) hLo (ci := 15) rfl (by decide) q432 q435 q437 q54 q439 (by decide +kernel) rfl hl.1 rfl (Nat.le_of_ble_eq_true rfl) ⟨(Nat.le_of_ble_eq_true rfl), (Nat.le_of_ble_eq_true rfl)⟩ dX2_add_17) (by omega) (by omega) ?_
      refine pb_ifB_eq C dX2_add_22 (tgt := 29) (by decide) (fun c22_ => ?_) (fun c22_ => ?_)
      · have c22_ := of_decide_eq_false c22_
        refine pb_aload_n C dX2_add_29 rfl (lv_at hl 0 rfl) ?_
        refine pb_get C in_X2 hO (ci := 1) rfl 0 (by decide) q139 (fun _ h9 => h9) (v := .ref (t)) rfl dX2_add_30 ?_
        refine pb_aload_n C dX2_add_33 rfl (lv_at hl 0 rfl) ?_
        refine pb_get C in_X2 hO (ci := 1) rfl 0 (by decide) q139 (fun _ h9 => h9) (v := .ref (t)) rfl dX2_add_34 ?_
        refine pb_go_x (bc' := 1 + (lC (L.length + 1) - lC L.length)) (bs' := 3 + (lS (L.length + 1) - lS L.length)) (pb_runF (n := 0) (rest := [.ref (t)]) C hG (x := ⟨"java/util/List", "size", "()I"⟩) (met_J2_size l t _ V hLr) hLo (ci := 15) rfl (by decide) q441 q444 q446 q54 q448 (by decide +kernel) rfl hl.1 rfl (Nat.le_of_ble_eq_true rfl) ⟨(Nat.le_of_ble_eq_true rfl), (Nat.le_of_ble_eq_true rfl)⟩ dX2_add_37) (by omega) (by omega) ?_
        refine pb_ic C dX2_add_42 ?_
        refine pb_isub C dX2_add_43 ?_
        refine pb_eq (g2 := F0 m_ 44 ls [.int (iZ ((((V.length - 1) : Nat) : Int))), .ref (t)]) (congrArg (fun z9 => F0 m_ 44 ls [.int (iZ z9), .ref (t)]) (show (((V.length : Nat) : Int) - 1) = (((V.length - 1) : Nat) : Int) from (by omega))) ?_
        refine pb_go_x (bc' := 1 + (lC (L.length + 1) - lC L.length)) (bs' := 3 + (lS (L.length + 1) - lS L.length)) (pb_runF (n := 1) (rest := []) C hG (x := ⟨"java/util/List", "get", "(I)Ljava/lang/Object;"⟩) (met_J2_get l t _ V hLr (V.length - 1) (by omega)) hLo (ci := 15) rfl (by decide) q450 q360 q362 q54 q364 (by decide +kernel) rfl hl.1 rfl (Nat.le_of_ble_eq_true rfl) ⟨(Nat.le_of_ble_eq_true rfl), (Nat.le_of_ble_eq_true rfl)⟩ dX2_add_44) (by omega) (by omega) ?_
        obtain ⟨hzb, s9, hOb, hS9, hb1, hb2⟩ := hB (V.length - 1) (by omega)
        obtain ⟨fs9_, hS9o⟩ := hS9.o
        refine pb_cast C hOb.r (ci := 4) rfl q451 dX2_add_49 ?_
        refine pb_astore C dX2_add_52 hl (by decide) rfl fun ls hl => ?_
        have hl : lv_has ls 5 [(4, .ref ((nV V (V.length - 1)))), (0, .ref (a)), (1, .int (iZ (lo_))), (2, .int (iZ (hi_))), (3, .ref (s))] := hl
        refine pb_aload C dX2_add_54 (lv_at hl 0 rfl) ?_
        refine pb_ifnull C dX2_add_56 ?_
        refine pb_aload C dX2_add_59 (lv_at hl 0 rfl) ?_
        refine pb_getN C in_X5 hOb.r (ci := 4) rfl 2 (by decide) q471 (fun _ h9 => h9) (v := .int (iZ ((bd L (V.length - 1)).2.1))) rfl dX2_add_61 ?_
        refine pb_iload_n C dX2_add_64 rfl (lv_at hl 2 rfl) ?_
        refine pb_icmp_ne C dX2_add_65 (x := (bd L (V.length - 1)).2.1) (y := lo_) (tgt := 89) (by decide) (by omega) (by omega) (fun c65_ => ?_) (fun c65_ => ?_)
        · refine pb_aload_n C dX2_add_89 rfl (lv_at hl 1 rfl) ?_
          refine pb_get C in_X2 hO (ci := 1) rfl 0 (by decide) q139 (fun _ h9 => h9) (v := .ref (t)) rfl dX2_add_90 ?_
          refine pb_newE C in_X5 tyX5 tyX5_ok (ci := 4) rfl q451 q456 q71 (fs := [.int (iZ (0)), .null, .int (iZ (0))]) (by decide) (bc' := 1 + (lC (L.length + 1) - lC L.length) - 1) (bs' := 3 + (lS (L.length + 1) - lS L.length) - 3) (by omega) (by omega) dX2_add_93 fun a1_ H1_ ha_ hn_ hN1_ => ?_
          have hs1_ : H1_.size = H0.size + 1 := hn_.1
          have hG := hG.kept (hn_.f.mono (fun _ _ _ => trivial))
          have hO := hO.kept (hn_.2 _ hO.lt)
          have hOb := hOb.kept (hn_.2 _ hOb.lt)
          obtain rfl : a1_ = H0.size := by omega
          skip
          have hN := hN1_
          refine pb_dup C dX2_add_96 rfl ?_
          refine pb_iload_n C dX2_add_97 rfl (lv_at hl 2 rfl) ?_
          refine pb_iload_n C dX2_add_98 rfl (lv_at hl 3 rfl) ?_
          refine pb_aload_n C dX2_add_99 rfl (lv_at hl 4 rfl) ?_
          refine pb_go_v (bc' := 1 + (lC (L.length + 1) - lC L.length) - 1) (bs' := 3 + (lS (L.length + 1) - lS L.length) - 3) (pb_runI (rest := [.ref (H0.size), .ref (t)]) C hG (met_X5_init l H0.size s lo_ hi_ (by omega) hN) q457 q458 q71 q459 rfl hdX5_init rfl hl.1 rfl (Nat.le_of_ble_eq_true rfl) ⟨(Nat.le_of_ble_eq_true rfl), (Nat.le_of_ble_eq_true rfl)⟩ dX2_add_100) (by omega) (by omega) (fun H_ hp_ => ?_)
          obtain ⟨hN, hF1⟩ := hp_
          have hG := hG.kept (hF1.mono (fun q _ (hq : q < w.2.2.2) => show q ≠ _ from by omega))
          have hFF : pb_F (fun q => q < H0.size) H0 H_ := ⟨by have := hF1.1; omega, fun q hq _ => (hF1.2 q (by omega) (show q ≠ _ from by omega)).trans (hn_.2 q hq)⟩
          have hLb := hLb.kept (hFF.2 _ htlt htlt) (fun _ h => hFF.2 _ h h)
          obtain ⟨fsL_, hLo⟩ := hLb.o
          have hSB : Sp w H_ (fun q => z ≤ q) s E := (hS.fr (hFF.mono (fun q h _ => h)) (fun _ _ => trivial) (fun _ _ => trivial))
          have hBk : ∀ j, j < L.length → BO w H_ z (nV V j) (bd L j) := fun j hj9 => (hB j hj9).fb (hFF.mono (fun q h _ => h))
          have hel : ∀ x ∈ V, pb_El w H_ x := fun x hx => by obtain ⟨j, hj9, rfl⟩ := nV_ex hx; exact (hBk j (by omega)).el
          have htt2 := hLb.2.1.r.ty.1
          have hte2 := hLb.ty hG.2.2.2.1.ty
          have hBn : BO w H_ z H0.size (lo_, hi_, E) := ⟨by omega, s, hN, hSB, hlo, hhi⟩
          refine pb_go_i (bc' := 1 + (lC (L.length + 1) - lC L.length) - 1 - ((lC (L.length + 1) - lC L.length))) (bs' := 3 + (lS (L.length + 1) - lS L.length) - 3 - ((lS (L.length + 1) - lS L.length))) (pb_runF (n := 1) (rest := []) C hG (x := ⟨"java/util/List", "add", "(Ljava/lang/Object;)Z"⟩) (met_J2_add l z t e H0.size V hz hLb hBn.el (by omega) hel (by omega)) hLo (ci := 15) rfl (by decide) q480 q150 q152 q54 q154 (by decide +kernel) rfl hl.1 rfl (Nat.le_of_ble_eq_true rfl) ⟨(Nat.le_of_ble_eq_true rfl), (Nat.le_of_ble_eq_true rfl)⟩ dX2_add_103) (by omega) (by omega) (fun z_ H9_ hp_ => ?_)
          obtain ⟨e1, he1, hLb, hF2⟩ := hp_
          have hF3 := fr_add C.inj hFF hF2 htt hte
          refine pb_pop C dX2_add_108 rfl ?_
          exact pb_vret C dX2_add_109 (⟨rfl, by rw [show radd L lo_ hi_ E = L ++ [(lo_, hi_, E)] from (if_neg hn9).trans (if_neg hj)]; exact Rb_app hza (hO0.kept (hF3.2 _ hO0.lt (fB.of 1 hO0.ty.1 (by decide)))) hLb hVn (fun j hj9 => (hB j hj9).fb hF3) hd (hBn.fb2 C.inj hF2 htt2 hte2) (fun j hj9 => by have := (hB j hj9).lt; omega), hF3.mono (fun _ _ h => h.b)⟩)
        · have c65_ : (bd L (V.length - 1)).2.1 = lo_ := by omega
          refine pb_aload C dX2_add_68 (lv_at hl 0 rfl) ?_
          refine pb_getN C in_X5 hOb.r (ci := 4) rfl 1 (by decide) q468 (fun _ h9 => h9) (v := .ref (s9)) rfl dX2_add_70 ?_
          refine pb_aload_n C dX2_add_73 rfl (lv_at hl 4 rfl) ?_
          refine pb_go_x (bc' := 1 + (lC (L.length + 1) - lC L.length)) (bs' := 3 + (lS (L.length + 1) - lS L.length)) (pb_runV (rest := []) C hG (met_X4_isSame l s9 _ _ hS9 s _ E hS) hS9o (ci := 3) rfl (lw_V q452 q453 q454 q70 q455) ⟨rfl, hdX4_isSame⟩ rfl hl.1 rfl (Nat.le_of_ble_eq_true rfl) ⟨(Nat.le_of_ble_eq_true rfl), (Nat.le_of_ble_eq_true rfl)⟩ dX2_add_74) (by omega) (by omega) ?_
          refine pb_ifB_eq C dX2_add_77 (tgt := 89) (by decide) (fun c77_ => ?_) (fun c77_ => ?_)
          · have c77_ := of_decide_eq_false c77_
            refine pb_aload_n C dX2_add_89 rfl (lv_at hl 1 rfl) ?_
            refine pb_get C in_X2 hO (ci := 1) rfl 0 (by decide) q139 (fun _ h9 => h9) (v := .ref (t)) rfl dX2_add_90 ?_
            refine pb_newE C in_X5 tyX5 tyX5_ok (ci := 4) rfl q451 q456 q71 (fs := [.int (iZ (0)), .null, .int (iZ (0))]) (by decide) (bc' := 1 + (lC (L.length + 1) - lC L.length) - 1) (bs' := 3 + (lS (L.length + 1) - lS L.length) - 3) (by omega) (by omega) dX2_add_93 fun a2_ H2_ ha_ hn_ hN2_ => ?_
            have hs2_ : H2_.size = H0.size + 1 := hn_.1
            have hG := hG.kept (hn_.f.mono (fun _ _ _ => trivial))
            have hO := hO.kept (hn_.2 _ hO.lt)
            have hOb := hOb.kept (hn_.2 _ hOb.lt)
            obtain rfl : a2_ = H0.size := by omega
            skip
            have hN := hN2_
            refine pb_dup C dX2_add_96 rfl ?_
            refine pb_iload_n C dX2_add_97 rfl (lv_at hl 2 rfl) ?_
            refine pb_iload_n C dX2_add_98 rfl (lv_at hl 3 rfl) ?_
            refine pb_aload_n C dX2_add_99 rfl (lv_at hl 4 rfl) ?_
            refine pb_go_v (bc' := 1 + (lC (L.length + 1) - lC L.length) - 1) (bs' := 3 + (lS (L.length + 1) - lS L.length) - 3) (pb_runI (rest := [.ref (H0.size), .ref (t)]) C hG (met_X5_init l H0.size s lo_ hi_ (by omega) hN) q457 q458 q71 q459 rfl hdX5_init rfl hl.1 rfl (Nat.le_of_ble_eq_true rfl) ⟨(Nat.le_of_ble_eq_true rfl), (Nat.le_of_ble_eq_true rfl)⟩ dX2_add_100) (by omega) (by omega) (fun H_ hp_ => ?_)
            obtain ⟨hN, hF1⟩ := hp_
            have hG := hG.kept (hF1.mono (fun q _ (hq : q < w.2.2.2) => show q ≠ _ from by omega))
            have hFF : pb_F (fun q => q < H0.size) H0 H_ := ⟨by have := hF1.1; omega, fun q hq _ => (hF1.2 q (by omega) (show q ≠ _ from by omega)).trans (hn_.2 q hq)⟩
            have hLb := hLb.kept (hFF.2 _ htlt htlt) (fun _ h => hFF.2 _ h h)
            obtain ⟨fsL_, hLo⟩ := hLb.o
            have hSB : Sp w H_ (fun q => z ≤ q) s E := (hS.fr (hFF.mono (fun q h _ => h)) (fun _ _ => trivial) (fun _ _ => trivial))
            have hBk : ∀ j, j < L.length → BO w H_ z (nV V j) (bd L j) := fun j hj9 => (hB j hj9).fb (hFF.mono (fun q h _ => h))
            have hel : ∀ x ∈ V, pb_El w H_ x := fun x hx => by obtain ⟨j, hj9, rfl⟩ := nV_ex hx; exact (hBk j (by omega)).el
            have htt2 := hLb.2.1.r.ty.1
            have hte2 := hLb.ty hG.2.2.2.1.ty
            have hBn : BO w H_ z H0.size (lo_, hi_, E) := ⟨by omega, s, hN, hSB, hlo, hhi⟩
            refine pb_go_i (bc' := 1 + (lC (L.length + 1) - lC L.length) - 1 - ((lC (L.length + 1) - lC L.length))) (bs' := 3 + (lS (L.length + 1) - lS L.length) - 3 - ((lS (L.length + 1) - lS L.length))) (pb_runF (n := 1) (rest := []) C hG (x := ⟨"java/util/List", "add", "(Ljava/lang/Object;)Z"⟩) (met_J2_add l z t e H0.size V hz hLb hBn.el (by omega) hel (by omega)) hLo (ci := 15) rfl (by decide) q480 q150 q152 q54 q154 (by decide +kernel) rfl hl.1 rfl (Nat.le_of_ble_eq_true rfl) ⟨(Nat.le_of_ble_eq_true rfl), (Nat.le_of_ble_eq_true rfl)⟩ dX2_add_103) (by omega) (by omega) (fun z_ H9_ hp_ => ?_)
            obtain ⟨e1, he1, hLb, hF2⟩ := hp_
            have hF3 := fr_add C.inj hFF hF2 htt hte
            refine pb_pop C dX2_add_108 rfl ?_
            exact pb_vret C dX2_add_109 (⟨rfl, by rw [show radd L lo_ hi_ E = L ++ [(lo_, hi_, E)] from (if_neg hn9).trans (if_neg hj)]; exact Rb_app hza (hO0.kept (hF3.2 _ hO0.lt (fB.of 1 hO0.ty.1 (by decide)))) hLb hVn (fun j hj9 => (hB j hj9).fb hF3) hd (hBn.fb2 C.inj hF2 htt2 hte2) (fun j hj9 => by have := (hB j hj9).lt; omega), hF3.mono (fun _ _ h => h.b)⟩)
          · have c77_ := of_decide_eq_true c77_
            exact absurd ⟨by omega, (by rw [← hVn]; exact c65_), (by rw [← hVn]; exact c77_)⟩ hj
      · have c22_ := of_decide_eq_true c22_
        refine pb_anull C dX2_add_25 ?_
        refine pb_goto C dX2_add_26 (tgt := 52) (by decide) ?_
        refine pb_astoreN C dX2_add_52 hl (by decide) rfl fun ls hl => ?_
        have hl : lv_has ls 5 [(4, .null), (0, .ref (a)), (1, .int (iZ (lo_))), (2, .int (iZ (hi_))), (3, .ref (s))] := hl
        refine pb_aloadN C dX2_add_54 (lv_at hl 0 rfl) ?_
        refine pb_ifnullN C dX2_add_56 (tgt := 89) (by decide) ?_
        refine pb_aload_n C dX2_add_89 rfl (lv_at hl 1 rfl) ?_
        refine pb_get C in_X2 hO (ci := 1) rfl 0 (by decide) q139 (fun _ h9 => h9) (v := .ref (t)) rfl dX2_add_90 ?_
        refine pb_newE C in_X5 tyX5 tyX5_ok (ci := 4) rfl q451 q456 q71 (fs := [.int (iZ (0)), .null, .int (iZ (0))]) (by decide) (bc' := 1 + (lC (L.length + 1) - lC L.length) - 1) (bs' := 3 + (lS (L.length + 1) - lS L.length) - 3) (by omega) (by omega) dX2_add_93 fun a3_ H3_ ha_ hn_ hN3_ => ?_
        have hs3_ : H3_.size = H0.size + 1 := hn_.1
        have hG := hG.kept (hn_.f.mono (fun _ _ _ => trivial))
        have hO := hO.kept (hn_.2 _ hO.lt)
        obtain rfl : a3_ = H0.size := by omega
        skip
        have hN := hN3_
        refine pb_dup C dX2_add_96 rfl ?_
        refine pb_iload_n C dX2_add_97 rfl (lv_at hl 2 rfl) ?_
        refine pb_iload_n C dX2_add_98 rfl (lv_at hl 3 rfl) ?_
        refine pb_aload_n C dX2_add_99 rfl (lv_at hl 4 rfl) ?_
        refine pb_go_v (bc' := 1 + (lC (L.length + 1) - lC L.length) - 1) (bs' := 3 + (lS (L.length + 1) - lS L.length) - 3) (pb_runI (rest := [.ref (H0.size), .ref (t)]) C hG (met_X5_init l H0.size s lo_ hi_ (by omega) hN) q457 q458 q71 q459 rfl hdX5_init rfl hl.1 rfl (Nat.le_of_ble_eq_true rfl) ⟨(Nat.le_of_ble_eq_true rfl), (Nat.le_of_ble_eq_true rfl)⟩ dX2_add_100) (by omega) (by omega) (fun H_ hp_ => ?_)
        obtain ⟨hN, hF1⟩ := hp_
        have hG := hG.kept (hF1.mono (fun q _ (hq : q < w.2.2.2) => show q ≠ _ from by omega))
        have hFF : pb_F (fun q => q < H0.size) H0 H_ := ⟨by have := hF1.1; omega, fun q hq _ => (hF1.2 q (by omega) (show q ≠ _ from by omega)).trans (hn_.2 q hq)⟩
        have hLb := hLb.kept (hFF.2 _ htlt htlt) (fun _ h => hFF.2 _ h h)
        obtain ⟨fsL_, hLo⟩ := hLb.o
        have hSB : Sp w H_ (fun q => z ≤ q) s E := (hS.fr (hFF.mono (fun q h _ => h)) (fun _ _ => trivial) (fun _ _ => trivial))
        have hBk : ∀ j, j < L.length → BO w H_ z (nV V j) (bd L j) := fun j hj9 => (hB j hj9).fb (hFF.mono (fun q h _ => h))
        have hel : ∀ x ∈ V, pb_El w H_ x := fun x hx => by obtain ⟨j, hj9, rfl⟩ := nV_ex hx; exact (hBk j (by omega)).el
        have htt2 := hLb.2.1.r.ty.1
        have hte2 := hLb.ty hG.2.2.2.1.ty
        have hBn : BO w H_ z H0.size (lo_, hi_, E) := ⟨by omega, s, hN, hSB, hlo, hhi⟩
        refine pb_go_i (bc' := 1 + (lC (L.length + 1) - lC L.length) - 1 - ((lC (L.length + 1) - lC L.length))) (bs' := 3 + (lS (L.length + 1) - lS L.length) - 3 - ((lS (L.length + 1) - lS L.length))) (pb_runF (n := 1) (rest := []) C hG (x := ⟨"java/util/List", "add", "(Ljava/lang/Object;)Z"⟩) (met_J2_add l z t e H0.size V hz hLb hBn.el (by omega) hel (by omega)) hLo (ci := 15) rfl (by decide) q480 q150 q152 q54 q154 (by decide +kernel) rfl hl.1 rfl (Nat.le_of_ble_eq_true rfl) ⟨(Nat.le_of_ble_eq_true rfl), (Nat.le_of_ble_eq_true rfl)⟩ dX2_add_103) (by omega) (by omega) (fun z_ H9_ hp_ => ?_)
        obtain ⟨e1, he1, hLb, hF2⟩ := hp_
        have hF3 := fr_add C.inj hFF hF2 htt hte
        refine pb_pop C dX2_add_108 rfl ?_
        exact pb_vret C dX2_add_109 (⟨rfl, by rw [show radd L lo_ hi_ E = L ++ [(lo_, hi_, E)] from (if_neg hn9).trans (if_neg hj)]; exact Rb_app hza (hO0.kept (hF3.2 _ hO0.lt (fB.of 1 hO0.ty.1 (by decide)))) hLb hVn (fun j hj9 => (hB j hj9).fb hF3) hd (hBn.fb2 C.inj hF2 htt2 hte2) (fun j hj9 => by have := (hB j hj9).lt; omega), hF3.mono (fun _ _ h => h.b)⟩)
    · omega

theorem met_X2_add {w : pb_W} (l : Launch) {H0 : Heap} (z a s : Nat) (L : List Bnd) (E : List Int) (lo_ hi_ : Int) (hz : w.2.2.2 ≤ z) (hR : Rb w H0 z a L) (hS : Sp w H0 (fun q => z ≤ q) s E) (hlo : -1000 ≤ lo_ ∧ lo_ ≤ 1000) (hhi : -1000 ≤ hi_ ∧ hi_ ≤ 1000) (hn : L.length < 1851) : pb_M w l yX2_add cX2_add 5 none 7 (radc L lo_ hi_ E) (rads L lo_ hi_ E) [.ref a, .int (iZ lo_), .int (iZ hi_), .ref s] H0 (pb_qv (fun H1 => Rb w H1 z a (radd L lo_ hi_ E) ∧ pb_F (fA w H0 z) H0 H1)) := by
  by_cases h9 : rE lo_ hi_ E
  · rw [show radc L lo_ hi_ E = 0 from if_neg (fun k => k.1 h9), show rads L lo_ hi_ E = 0 from if_neg (fun k => k.1 h9)]
    exact met_X2_add_0 l z a s L E lo_ hi_ hz hR _ hS hlo hhi hn h9
  · by_cases hj : rJ L lo_ E
    · rw [show radc L lo_ hi_ E = 0 from if_neg (fun k => k.2 hj), show rads L lo_ hi_ E = 0 from if_neg (fun k => k.2 hj)]
      exact met_X2_add_1 l z a s L E lo_ hi_ hz hR hS hlo hhi hn h9 hj
    · rw [show radc L lo_ hi_ E = 1 + (lC (L.length + 1) - lC L.length) from if_pos ⟨h9, hj⟩, show rads L lo_ hi_ E = 3 + (lS (L.length + 1) - lS L.length) from if_pos ⟨h9, hj⟩]
      exact met_X2_add_2 l z a s L E lo_ hi_ hz hR hS hlo hhi hn h9 hj

theorem met_X2_addE {w : pb_W} (l : Launch) {H0 : Heap} (z a s : Nat) (L : List Bnd) (E : List Int) (lo_ hi_ : Int) (hz : w.2.2.2 ≤ z) (hR : Rb w H0 z a L) (P : Nat → Prop) (hS : Sp w H0 P s E) (hlo : -1000 ≤ lo_ ∧ lo_ ≤ 1000) (hhi : -1000 ≤ hi_ ∧ hi_ ≤ 1000) (hn : L.length < 1851) (h9 : rE lo_ hi_ E) : pb_M w l yX2_add cX2_add 5 none 7 (radc L lo_ hi_ E) (rads L lo_ hi_ E) [.ref a, .int (iZ lo_), .int (iZ hi_), .ref s] H0 (pb_qv (fun H1 => Rb w H1 z a (radd L lo_ hi_ E) ∧ pb_F (fA w H0 z) H0 H1)) := by
  rw [show radc L lo_ hi_ E = 0 from if_neg (fun k => k.1 h9), show rads L lo_ hi_ E = 0 from if_neg (fun k => k.1 h9)]
  exact met_X2_add_0 l z a s L E lo_ hi_ hz hR _ hS hlo hhi hn h9

