set_option maxRecDepth 100000
set_option maxHeartbeats 1000000 in
theorem met_X4_init {w : pb_W} (l : Launch) {H0 : Heap} (z a : Nat) (hz : w.2.2.2 ≤ z) (hza : z ≤ a) (hO : pb_O w H0 a 3 [.null, .int (iZ (0))]) : pb_M w l yX4_init cX4_init 1 none 1 (1) (8) [.ref (a)] H0 (pb_qv (fun H1 => Sb w H1 z a [] 8 ∧ pb_F (fun q => q ≠ a) H0 H1)) := by
  refine pb_of (by decide +kernel) (Nat.le_of_ble_eq_true rfl) ?_
  intro p_ e_ s_ m_ ar_ bl_ me_ co_ ls C hh hG hl
  have hl : lv_has ls 1 [(0, .ref (a))] := hl
  have hFF : pb_F (fun q => q ≠ a) H0 H0 := pb_F.rf
  have halt := hO.lt
  refine pb_aload_n C dX4_init_0 rfl (lv_at hl 0 rfl) ?_
  refine pb_objInit C q409 q99 q100 hl.1 ⟨(Nat.le_of_ble_eq_true rfl), (Nat.le_of_ble_eq_true rfl)⟩ dX4_init_1 ?_
  refine pb_aload_n C dX4_init_4 rfl (lv_at hl 0 rfl) ?_
  refine pb_bip C dX4_init_5 (by decide) ?_
  refine pb_newaE C 0 (by decide) (atype := .int) rfl q417 (n := 8) (by omega) rfl (bc' := 0) (bs' := 0) (by omega) (by omega) dX4_init_7 fun a1_ H1_ ha_ hn_ hN1_ => ?_
  have hs1_ : H1_.size = H0.size + 1 := hn_.1
  have hG := hG.kept (hn_.f.mono (fun _ _ _ => trivial))
  have hO := hO.kept (hn_.2 _ hO.lt)
  have hFF := hFF.tr (hn_.f.mono (fun _ _ _ => trivial))
  have a1__e : a1_ = H0.size := ha_
  have hN1_ : pb_A w H1_ (a1_) 0 8 (fun _ => .int (iZ (0))) := hN1_
  refine pb_put C in_X4 tyX4 tyX4_ok nmX4 hO (ci := 3) rfl 0 (by decide) q410 (fun _ h9 => h9) rfl (v := .ref (a1_)) rfl rfl (Nat.le_of_ble_eq_true rfl) (by omega) dX4_init_9 fun H2_ hu_ hO => ?_
  have hO : pb_O w H2_ (a) 3 [.ref (a1_), .int (iZ (0))] := hO
  have hG := hG.kept (hu_.z (by omega))
  have hs_H2_ := hu_.1
  have hN1_ := hN1_.kept (hu_.2 _ (by omega))
  have hFF := hFF.tr (hu_.f)
  exact pb_vret C dX4_init_12 (⟨rfl, ⟨a1_, fun _ => 0, hza, by omega, by omega, hO, hN1_, fun i hi => (by cases hi), Nat.zero_le _, fun x hx => (by cases hx), Or.inl rfl, rfl⟩, hFF⟩)

set_option maxHeartbeats 1000000 in
theorem met_X4_add_0 {w : pb_W} (l : Launch) {H0 : Heap} (z a m : Nat) (E : List Int) (hz : w.2.2.2 ≤ z) (hS : Sb w H0 z a E m) (l_ r : Int) (hl_ : -1000 ≤ l_ ∧ l_ ≤ 1000) (hr : -1000 ≤ r ∧ r ≤ 1000) (hng : ¬ spG E l_ r m) : pb_M w l yX4_add cX4_add 5 none 1 (0) (0) [.ref (a), .int (iZ (l_)), .int (iZ (r))] H0 (pb_qv (fun H1 => Sb w H1 z a (spadd E l_ r) (spm E l_ r m) ∧ pb_F (fun q => q < z) H0 H1)) := by
  refine pb_of (by decide +kernel) (Nat.le_of_ble_eq_true rfl) ?_
  intro p_ e_ s_ m_ ar_ bl_ me_ co_ ls C hh hG hl
  have hl : lv_has ls 5 [(0, .ref (a)), (1, .int (iZ (l_))), (2, .int (iZ (r)))] := hl
  obtain ⟨e, f, h1, h2, h3, hO, hA, hag, hle, hrg, hm, hev⟩ := hS
  have halt := hO.lt
  have helt := hA.lt
  have hFF : pb_F (fun q => q < z) H0 H0 := pb_F.rf
  have hlr : 0 < E.length → -1000 ≤ lastE E ∧ lastE E ≤ 1000 := fun h => by rw [← agr_last hag h]; exact agr_at hag hrg (by omega)
  refine pb_iload_n C dX4_add_0 rfl (lv_at hl 1 rfl) ?_
  refine pb_iload_n C dX4_add_1 rfl (lv_at hl 2 rfl) ?_
  refine pb_icmp_lt C dX4_add_2 (x := l_) (y := r) (tgt := 6) (by decide) (by omega) (by omega) (fun c2_ => ?_) (fun c2_ => ?_)
  · refine pb_aload_n C dX4_add_6 rfl (lv_at hl 0 rfl) ?_
    refine pb_get C in_X4 hO.r (ci := 3) rfl 1 (by decide) q411 (fun _ h9 => h9) (v := .int (iZ (((E.length : Nat) : Int)))) rfl dX4_add_7 ?_
    refine pb_if_le C dX4_add_10 (x := ((E.length : Nat) : Int)) (tgt := 55) (by decide) (by omega) (fun c10_ => ?_) (fun c10_ => ?_)
    · refine pb_aload_n C dX4_add_55 rfl (lv_at hl 0 rfl) ?_
      refine pb_get C in_X4 hO.r (ci := 3) rfl 1 (by decide) q411 (fun _ h9 => h9) (v := .int (iZ (((E.length : Nat) : Int)))) rfl dX4_add_56 ?_
      refine pb_aload_n C dX4_add_59 rfl (lv_at hl 0 rfl) ?_
      refine pb_get C in_X4 hO.r (ci := 3) rfl 0 (by decide) q410 (fun _ h9 => h9) (v := .ref (e)) rfl dX4_add_60 ?_
      refine pb_alen C (t := 0) (by decide) hA.b dX4_add_63 ?_
      have hnj : ¬ spJ E l_ := (fun h : spJ E l_ => by have := h.1; have := h.2; omega)
      refine pb_icmp_ne C dX4_add_64 (x := ((E.length : Nat) : Int)) (y := ((m : Nat) : Int)) (tgt := 110) (by decide) (by omega) (by omega) (fun c64_ => ?_) (fun c64_ => ?_)
      · refine pb_aload_n C dX4_add_110 rfl (lv_at hl 0 rfl) ?_
        refine pb_get C in_X4 hO.r (ci := 3) rfl 0 (by decide) q410 (fun _ h9 => h9) (v := .ref (e)) rfl dX4_add_111 ?_
        refine pb_aload_n C dX4_add_114 rfl (lv_at hl 0 rfl) ?_
        refine pb_get C in_X4 hO.r (ci := 3) rfl 1 (by decide) q411 (fun _ h9 => h9) (v := .int (iZ (((E.length : Nat) : Int)))) rfl dX4_add_115 ?_
        refine pb_iload_n C dX4_add_118 rfl (lv_at hl 1 rfl) ?_
        refine pb_iast C hA (i := ((E.length : Nat) : Int)) (by omega) (by omega) dX4_add_119 fun H1_ hu_ hA => ?_
        rw [pb_upZ, Int.toNat_natCast] at hA
        have hG := hG.kept (hu_.z (by omega))
        have hs_H1_ := hu_.1
        have hO := hO.kept (hu_.2 _ (by omega))
        have hFF := hFF.tr (hu_.f.mono (fun q _ (hq : q < z) => show q ≠ _ from by omega))
        refine pb_aload_n C dX4_add_120 rfl (lv_at hl 0 rfl) ?_
        refine pb_get C in_X4 hO.r (ci := 3) rfl 0 (by decide) q410 (fun _ h9 => h9) (v := .ref (e)) rfl dX4_add_121 ?_
        refine pb_aload_n C dX4_add_124 rfl (lv_at hl 0 rfl) ?_
        refine pb_get C in_X4 hO.r (ci := 3) rfl 1 (by decide) q411 (fun _ h9 => h9) (v := .int (iZ (((E.length : Nat) : Int)))) rfl dX4_add_125 ?_
        refine pb_ic C dX4_add_128 ?_
        refine pb_iadd C dX4_add_129 ?_
        refine pb_iload_n C dX4_add_130 rfl (lv_at hl 2 rfl) ?_
        refine pb_iast C hA (i := (((E.length + 1) : Nat) : Int)) (by omega) (by omega) dX4_add_131 fun H2_ hu_ hA => ?_
        rw [pb_upZ, Int.toNat_natCast] at hA
        have hG := hG.kept (hu_.z (by omega))
        have hs_H2_ := hu_.1
        have hO := hO.kept (hu_.2 _ (by omega))
        have hFF := hFF.tr (hu_.f.mono (fun q _ (hq : q < z) => show q ≠ _ from by omega))
        refine pb_aload_n C dX4_add_132 rfl (lv_at hl 0 rfl) ?_
        refine pb_dup C dX4_add_133 rfl ?_
        refine pb_get C in_X4 hO.r (ci := 3) rfl 1 (by decide) q411 (fun _ h9 => h9) (v := .int (iZ (((E.length : Nat) : Int)))) rfl dX4_add_134 ?_
        refine pb_ic C dX4_add_137 ?_
        refine pb_iadd C dX4_add_138 ?_
        refine pb_put C in_X4 tyX4 tyX4_ok nmX4 hO (ci := 3) rfl 1 (by decide) q411 (fun _ h9 => h9) rfl (v := .int (iZ ((((E.length + 2) : Nat) : Int)))) rfl rfl (Nat.le_of_ble_eq_true rfl) (by omega) dX4_add_139 fun H3_ hu_ hO => ?_
        have hO : pb_O w H3_ (a) 3 [.ref (e), .int (iZ ((((E.length + 2) : Nat) : Int)))] := hO
        have hG := hG.kept (hu_.z (by omega))
        have hs_H3_ := hu_.1
        have hA := hA.kept (hu_.2 _ (by omega))
        have hFF := hFF.tr (hu_.f.mono (fun q _ (hq : q < z) => show q ≠ _ from by omega))
        exact pb_vret C dX4_add_142 (⟨rfl, by rw [show spadd E l_ r = E ++ [l_, r] from (if_neg (by omega)).trans (if_neg hnj), show spm E l_ r m = m from if_neg hng]; exact ⟨e, _, h1, h2, h3, by rw [List.length_append]; exact hO, hA, agr_app hag _ _, by rw [List.length_append]; show E.length + 2 ≤ m; omega, rgE_app hrg hl_ hr, hm, by rw [List.length_append]; show (E.length + 2) % 2 = 0; omega⟩, hFF⟩)
      · exact (hng ⟨by omega, hnj, by omega⟩).elim
    · refine pb_iload_n C dX4_add_13 rfl (lv_at hl 1 rfl) ?_
      refine pb_aload_n C dX4_add_14 rfl (lv_at hl 0 rfl) ?_
      refine pb_get C in_X4 hO.r (ci := 3) rfl 0 (by decide) q410 (fun _ h9 => h9) (v := .ref (e)) rfl dX4_add_15 ?_
      refine pb_aload_n C dX4_add_18 rfl (lv_at hl 0 rfl) ?_
      refine pb_get C in_X4 hO.r (ci := 3) rfl 1 (by decide) q411 (fun _ h9 => h9) (v := .int (iZ (((E.length : Nat) : Int)))) rfl dX4_add_19 ?_
      refine pb_ic C dX4_add_22 ?_
      refine pb_isub C dX4_add_23 ?_
      refine pb_eq (g2 := F0 m_ 24 ls [.int (iZ ((((E.length - 1) : Nat) : Int))), .ref (e), .int (iZ (l_))]) (congrArg (fun z9 => F0 m_ 24 ls [.int (iZ z9), .ref (e), .int (iZ (l_))]) (show (((E.length : Nat) : Int) - 1) = (((E.length - 1) : Nat) : Int) from (by omega))) ?_
      have hlr := hlr (by omega)
      refine pb_iald C hA.b (i := (((E.length - 1) : Nat) : Int)) (v := .int (iZ ((lastE E)))) (by omega) (congrArg (fun z : Int => Value.int (iZ z)) (show f (E.length - 1) = lastE E from agr_last hag (by omega))) dX4_add_24 ?_
      refine pb_icmp_gt C dX4_add_25 (x := l_) (y := (lastE E)) (tgt := 55) (by decide) (by omega) (by omega) (fun c25_ => ?_) (fun c25_ => ?_)
      · refine pb_aload_n C dX4_add_55 rfl (lv_at hl 0 rfl) ?_
        refine pb_get C in_X4 hO.r (ci := 3) rfl 1 (by decide) q411 (fun _ h9 => h9) (v := .int (iZ (((E.length : Nat) : Int)))) rfl dX4_add_56 ?_
        refine pb_aload_n C dX4_add_59 rfl (lv_at hl 0 rfl) ?_
        refine pb_get C in_X4 hO.r (ci := 3) rfl 0 (by decide) q410 (fun _ h9 => h9) (v := .ref (e)) rfl dX4_add_60 ?_
        refine pb_alen C (t := 0) (by decide) hA.b dX4_add_63 ?_
        have hnj : ¬ spJ E l_ := (fun h : spJ E l_ => by have := h.1; have := h.2; omega)
        refine pb_icmp_ne C dX4_add_64 (x := ((E.length : Nat) : Int)) (y := ((m : Nat) : Int)) (tgt := 110) (by decide) (by omega) (by omega) (fun c64_ => ?_) (fun c64_ => ?_)
        · refine pb_aload_n C dX4_add_110 rfl (lv_at hl 0 rfl) ?_
          refine pb_get C in_X4 hO.r (ci := 3) rfl 0 (by decide) q410 (fun _ h9 => h9) (v := .ref (e)) rfl dX4_add_111 ?_
          refine pb_aload_n C dX4_add_114 rfl (lv_at hl 0 rfl) ?_
          refine pb_get C in_X4 hO.r (ci := 3) rfl 1 (by decide) q411 (fun _ h9 => h9) (v := .int (iZ (((E.length : Nat) : Int)))) rfl dX4_add_115 ?_
          refine pb_iload_n C dX4_add_118 rfl (lv_at hl 1 rfl) ?_
          refine pb_iast C hA (i := ((E.length : Nat) : Int)) (by omega) (by omega) dX4_add_119 fun H4_ hu_ hA => ?_
          rw [pb_upZ, Int.toNat_natCast] at hA
          have hG := hG.kept (hu_.z (by omega))
          have hs_H4_ := hu_.1
          have hO := hO.kept (hu_.2 _ (by omega))
          have hFF := hFF.tr (hu_.f.mono (fun q _ (hq : q < z) => show q ≠ _ from by omega))
          refine pb_aload_n C dX4_add_120 rfl (lv_at hl 0 rfl) ?_
          refine pb_get C in_X4 hO.r (ci := 3) rfl 0 (by decide) q410 (fun _ h9 => h9) (v := .ref (e)) rfl dX4_add_121 ?_
          refine pb_aload_n C dX4_add_124 rfl (lv_at hl 0 rfl) ?_
          refine pb_get C in_X4 hO.r (ci := 3) rfl 1 (by decide) q411 (fun _ h9 => h9) (v := .int (iZ (((E.length : Nat) : Int)))) rfl dX4_add_125 ?_
          refine pb_ic C dX4_add_128 ?_
          refine pb_iadd C dX4_add_129 ?_
          refine pb_iload_n C dX4_add_130 rfl (lv_at hl 2 rfl) ?_
          refine pb_iast C hA (i := (((E.length + 1) : Nat) : Int)) (by omega) (by omega) dX4_add_131 fun H5_ hu_ hA => ?_
          rw [pb_upZ, Int.toNat_natCast] at hA
          have hG := hG.kept (hu_.z (by omega))
          have hs_H5_ := hu_.1
          have hO := hO.kept (hu_.2 _ (by omega))
          have hFF := hFF.tr (hu_.f.mono (fun q _ (hq : q < z) => show q ≠ _ from by omega))
          refine pb_aload_n C dX4_add_132 rfl (lv_at hl 0 rfl) ?_
          refine pb_dup C dX4_add_133 rfl ?_
          refine pb_get C in_X4 hO.r (ci := 3) rfl 1 (by decide) q411 (fun _ h9 => h9) (v := .int (iZ (((E.length : Nat) : Int)))) rfl dX4_add_134 ?_
          refine pb_ic C dX4_add_137 ?_
          refine pb_iadd C dX4_add_138 ?_
          refine pb_put C in_X4 tyX4 tyX4_ok nmX4 hO (ci := 3) rfl 1 (by decide) q411 (fun _ h9 => h9) rfl (v := .int (iZ ((((E.length + 2) : Nat) : Int)))) rfl rfl (Nat.le_of_ble_eq_true rfl) (by omega) dX4_add_139 fun H6_ hu_ hO => ?_
          have hO : pb_O w H6_ (a) 3 [.ref (e), .int (iZ ((((E.length + 2) : Nat) : Int)))] := hO
          have hG := hG.kept (hu_.z (by omega))
          have hs_H6_ := hu_.1
          have hA := hA.kept (hu_.2 _ (by omega))
          have hFF := hFF.tr (hu_.f.mono (fun q _ (hq : q < z) => show q ≠ _ from by omega))
          exact pb_vret C dX4_add_142 (⟨rfl, by rw [show spadd E l_ r = E ++ [l_, r] from (if_neg (by omega)).trans (if_neg hnj), show spm E l_ r m = m from if_neg hng]; exact ⟨e, _, h1, h2, h3, by rw [List.length_append]; exact hO, hA, agr_app hag _ _, by rw [List.length_append]; show E.length + 2 ≤ m; omega, rgE_app hrg hl_ hr, hm, by rw [List.length_append]; show (E.length + 2) % 2 = 0; omega⟩, hFF⟩)
        · exact (hng ⟨by omega, hnj, by omega⟩).elim
      · refine pb_aload_n C dX4_add_28 rfl (lv_at hl 0 rfl) ?_
        refine pb_get C in_X4 hO.r (ci := 3) rfl 0 (by decide) q410 (fun _ h9 => h9) (v := .ref (e)) rfl dX4_add_29 ?_
        refine pb_aload_n C dX4_add_32 rfl (lv_at hl 0 rfl) ?_
        refine pb_get C in_X4 hO.r (ci := 3) rfl 1 (by decide) q411 (fun _ h9 => h9) (v := .int (iZ (((E.length : Nat) : Int)))) rfl dX4_add_33 ?_
        refine pb_ic C dX4_add_36 ?_
        refine pb_isub C dX4_add_37 ?_
        refine pb_eq (g2 := F0 m_ 38 ls [.int (iZ ((((E.length - 1) : Nat) : Int))), .ref (e)]) (congrArg (fun z9 => F0 m_ 38 ls [.int (iZ z9), .ref (e)]) (show (((E.length : Nat) : Int) - 1) = (((E.length - 1) : Nat) : Int) from (by omega))) ?_
        refine pb_aload_n C dX4_add_38 rfl (lv_at hl 0 rfl) ?_
        refine pb_get C in_X4 hO.r (ci := 3) rfl 0 (by decide) q410 (fun _ h9 => h9) (v := .ref (e)) rfl dX4_add_39 ?_
        refine pb_aload_n C dX4_add_42 rfl (lv_at hl 0 rfl) ?_
        refine pb_get C in_X4 hO.r (ci := 3) rfl 1 (by decide) q411 (fun _ h9 => h9) (v := .int (iZ (((E.length : Nat) : Int)))) rfl dX4_add_43 ?_
        refine pb_ic C dX4_add_46 ?_
        refine pb_isub C dX4_add_47 ?_
        refine pb_eq (g2 := F0 m_ 48 ls [.int (iZ ((((E.length - 1) : Nat) : Int))), .ref (e), .int (iZ ((((E.length - 1) : Nat) : Int))), .ref (e)]) (congrArg (fun z9 => F0 m_ 48 ls [.int (iZ z9), .ref (e), .int (iZ ((((E.length - 1) : Nat) : Int))), .ref (e)]) (show (((E.length : Nat) : Int) - 1) = (((E.length - 1) : Nat) : Int) from (by omega))) ?_
        refine pb_iald C hA.b (i := (((E.length - 1) : Nat) : Int)) (v := .int (iZ ((lastE E)))) (by omega) (congrArg (fun z : Int => Value.int (iZ z)) (show f (E.length - 1) = lastE E from agr_last hag (by omega))) dX4_add_48 ?_
        refine pb_iload_n C dX4_add_49 rfl (lv_at hl 2 rfl) ?_
        refine pb_mmax C (x := (lastE E)) (y := r) q422 q171 q57 q172 hl.1 ⟨(Nat.le_of_ble_eq_true rfl), (Nat.le_of_ble_eq_true rfl)⟩ (by omega) (by omega) dX4_add_50 ?_
        refine pb_iast C hA (i := (((E.length - 1) : Nat) : Int)) (by omega) (by omega) dX4_add_53 fun H7_ hu_ hA => ?_
        rw [pb_upZ, Int.toNat_natCast] at hA
        have hG := hG.kept (hu_.z (by omega))
        have hs_H7_ := hu_.1
        have hO := hO.kept (hu_.2 _ (by omega))
        have hFF := hFF.tr (hu_.f.mono (fun q _ (hq : q < z) => show q ≠ _ from by omega))
        exact pb_vret C dX4_add_54 (⟨rfl, by rw [show spadd E l_ r = E.dropLast ++ [max (lastE E) r] from (if_neg (by omega)).trans (if_pos ⟨by omega, by omega⟩), show spm E l_ r m = m from if_neg hng]; exact ⟨e, _, h1, h2, h3, by rw [len_set (by omega)]; exact hO, hA, agr_set hag (by omega) _, by rw [len_set (by omega)]; exact hle, rgE_set hrg (by omega), hm, by rw [len_set (by omega)]; exact hev⟩, hFF⟩)
  · exact pb_vret C dX4_add_5 (⟨rfl, by rw [show spadd E l_ r = E from if_pos (by omega), show spm E l_ r m = m from if_neg hng]; exact ⟨e, f, h1, h2, h3, hO, hA, hag, hle, hrg, hm, hev⟩, hFF⟩)

set_option maxHeartbeats 1000000 in
theorem met_X4_add_1 {w : pb_W} (l : Launch) {H0 : Heap} (z a m : Nat) (E : List Int) (hz : w.2.2.2 ≤ z) (hS : Sb w H0 z a E m) (l_ r : Int) (hl_ : -1000 ≤ l_ ∧ l_ ≤ 1000) (hr : -1000 ≤ r ∧ r ≤ 1000) (hg : spG E l_ r m) (hm64 : 2 * m ≤ 64) : pb_M w l yX4_add cX4_add 5 none 1 (1) (2 * m) [.ref (a), .int (iZ (l_)), .int (iZ (r))] H0 (pb_qv (fun H1 => Sb w H1 z a (spadd E l_ r) (spm E l_ r m) ∧ pb_F (fun q => q < z) H0 H1)) := by
  refine pb_of (by decide +kernel) (Nat.le_of_ble_eq_true rfl) ?_
  intro p_ e_ s_ m_ ar_ bl_ me_ co_ ls C hh hG hl
  have hl : lv_has ls 5 [(0, .ref (a)), (1, .int (iZ (l_))), (2, .int (iZ (r)))] := hl
  obtain ⟨e, f, h1, h2, h3, hO, hA, hag, hle, hrg, hm, hev⟩ := hS
  have halt := hO.lt
  have helt := hA.lt
  have hFF : pb_F (fun q => q < z) H0 H0 := pb_F.rf
  have hlr : 0 < E.length → -1000 ≤ lastE E ∧ lastE E ≤ 1000 := fun h => by rw [← agr_last hag h]; exact agr_at hag hrg (by omega)
  have hg3 := hg.2.2
  have hg1 := hg.1
  have L79 : ∀ (n_ : Nat) (k x : Nat) (H : Heap), E.length - k = n_ → (pb_G w s_ H) → (H0.size ≤ x) → (H0.size ≤ H.size) → (k ≤ E.length) → (pb_O w H a 3 [.ref e, .int (iZ ((E.length : Nat) : Int))]) → (pb_A w H e 0 m (pb_zf f)) → (pb_A w H x 0 (2 * E.length) (pb_zf (mdZ f (fun _ => 0) k))) → (pb_F (fun q => q < z) H0 H) → ∀ (ls : Array Slot), lv_has ls 5 [(0, .ref (a)), (1, .int (iZ (l_))), (2, .int (iZ (r))), (3, .ref (x)), (4, .int (iZ (((k : Nat) : Int))))] → pb_V w.2.2.2 p_ l e_ (pb_rm 1 (1) (2 * m)) s_ m_ ar_ bl_ me_ co_ H (0) (0) (pb_E w bl_ ar_ s_ (1) (2 * m) (pb_qv (fun H1 => Sb w H1 z a (spadd E l_ r) (spm E l_ r m) ∧ pb_F (fun q => q < z) H0 H1))) (F0 m_ 79 ls []) := by
    intro n_
    induction n_ using Nat.strongRecOn with
    | _ n_ ih79 =>
    intro k x H hm_ hG hx hxs hk hO hA hN hFF ls hl
    refine pb_iload C dX4_add_79 (lv_at hl 4 rfl) ?_
    refine pb_aload_n C dX4_add_81 rfl (lv_at hl 0 rfl) ?_
    refine pb_get C in_X4 hO.r (ci := 3) rfl 1 (by decide) q411 (fun _ h9 => h9) (v := .int (iZ (((E.length : Nat) : Int)))) rfl dX4_add_82 ?_
    refine pb_icmp_ge C dX4_add_85 (x := ((k : Nat) : Int)) (y := ((E.length : Nat) : Int)) (tgt := 105) (by decide) (by omega) (by omega) (fun c85_ => ?_) (fun c85_ => ?_)
    · have hk9 : k = E.length := by omega
      rw [hk9] at hN
      have hag9 : agr (mdZ f (fun _ => 0) E.length) E := fun i hi => by rw [mdZ, if_pos hi]; exact hag i hi
      refine pb_aload_n C dX4_add_105 rfl (lv_at hl 0 rfl) ?_
      refine pb_aload_n C dX4_add_106 rfl (lv_at hl 3 rfl) ?_
      refine pb_put C in_X4 tyX4 tyX4_ok nmX4 hO (ci := 3) rfl 0 (by decide) q410 (fun _ h9 => h9) rfl (v := .ref (x)) rfl rfl (Nat.le_of_ble_eq_true rfl) (by omega) dX4_add_107 fun H1_ hu_ hO => ?_
      have hO : pb_O w H1_ (a) 3 [.ref (x), .int (iZ (((E.length : Nat) : Int)))] := hO
      have hG := hG.kept (hu_.z (by omega))
      have hs_H1_ := hu_.1
      have hA := hA.kept (hu_.2 _ (by omega))
      have hN := hN.kept (hu_.2 _ (by omega))
      have hFF := hFF.tr (hu_.f.mono (fun q _ (hq : q < z) => show q ≠ _ from by omega))
      refine pb_aload_n C dX4_add_110 rfl (lv_at hl 0 rfl) ?_
      refine pb_get C in_X4 hO.r (ci := 3) rfl 0 (by decide) q410 (fun _ h9 => h9) (v := .ref (x)) rfl dX4_add_111 ?_
      refine pb_aload_n C dX4_add_114 rfl (lv_at hl 0 rfl) ?_
      refine pb_get C in_X4 hO.r (ci := 3) rfl 1 (by decide) q411 (fun _ h9 => h9) (v := .int (iZ (((E.length : Nat) : Int)))) rfl dX4_add_115 ?_
      refine pb_iload_n C dX4_add_118 rfl (lv_at hl 1 rfl) ?_
      refine pb_iast C hN (i := ((E.length : Nat) : Int)) (by omega) (by omega) dX4_add_119 fun H2_ hu_ hN => ?_
      rw [pb_upZ, Int.toNat_natCast] at hN
      have hG := hG.kept (hu_.z (by omega))
      have hs_H2_ := hu_.1
      have hO := hO.kept (hu_.2 _ (by omega))
      have hA := hA.kept (hu_.2 _ (by omega))
      have hFF := hFF.tr (hu_.f.mono (fun q _ (hq : q < z) => show q ≠ _ from by omega))
      refine pb_aload_n C dX4_add_120 rfl (lv_at hl 0 rfl) ?_
      refine pb_get C in_X4 hO.r (ci := 3) rfl 0 (by decide) q410 (fun _ h9 => h9) (v := .ref (x)) rfl dX4_add_121 ?_
      refine pb_aload_n C dX4_add_124 rfl (lv_at hl 0 rfl) ?_
      refine pb_get C in_X4 hO.r (ci := 3) rfl 1 (by decide) q411 (fun _ h9 => h9) (v := .int (iZ (((E.length : Nat) : Int)))) rfl dX4_add_125 ?_
      refine pb_ic C dX4_add_128 ?_
      refine pb_iadd C dX4_add_129 ?_
      refine pb_iload_n C dX4_add_130 rfl (lv_at hl 2 rfl) ?_
      refine pb_iast C hN (i := (((E.length + 1) : Nat) : Int)) (by omega) (by omega) dX4_add_131 fun H3_ hu_ hN => ?_
      rw [pb_upZ, Int.toNat_natCast] at hN
      have hG := hG.kept (hu_.z (by omega))
      have hs_H3_ := hu_.1
      have hO := hO.kept (hu_.2 _ (by omega))
      have hA := hA.kept (hu_.2 _ (by omega))
      have hFF := hFF.tr (hu_.f.mono (fun q _ (hq : q < z) => show q ≠ _ from by omega))
      refine pb_aload_n C dX4_add_132 rfl (lv_at hl 0 rfl) ?_
      refine pb_dup C dX4_add_133 rfl ?_
      refine pb_get C in_X4 hO.r (ci := 3) rfl 1 (by decide) q411 (fun _ h9 => h9) (v := .int (iZ (((E.length : Nat) : Int)))) rfl dX4_add_134 ?_
      refine pb_ic C dX4_add_137 ?_
      refine pb_iadd C dX4_add_138 ?_
      refine pb_put C in_X4 tyX4 tyX4_ok nmX4 hO (ci := 3) rfl 1 (by decide) q411 (fun _ h9 => h9) rfl (v := .int (iZ ((((E.length + 2) : Nat) : Int)))) rfl rfl (Nat.le_of_ble_eq_true rfl) (by omega) dX4_add_139 fun H4_ hu_ hO => ?_
      have hO : pb_O w H4_ (a) 3 [.ref (x), .int (iZ ((((E.length + 2) : Nat) : Int)))] := hO
      have hG := hG.kept (hu_.z (by omega))
      have hs_H4_ := hu_.1
      have hA := hA.kept (hu_.2 _ (by omega))
      have hN := hN.kept (hu_.2 _ (by omega))
      have hFF := hFF.tr (hu_.f.mono (fun q _ (hq : q < z) => show q ≠ _ from by omega))
      exact pb_vret C dX4_add_142 (⟨rfl, by rw [show spadd E l_ r = E ++ [l_, r] from (if_neg (by omega)).trans (if_neg hg.2.1), show spm E l_ r m = 2 * m from if_pos hg]; exact ⟨x, _, h1, by omega, by omega, by rw [List.length_append]; exact hO, by rw [show 2 * m = 2 * E.length by omega]; exact hN, agr_app hag9 _ _, by rw [List.length_append]; show E.length + 2 ≤ 2 * m; omega, rgE_app hrg hl_ hr, by omega, by rw [List.length_append]; show (E.length + 2) % 2 = 0; omega⟩, hFF⟩)
    · refine pb_aload_n C dX4_add_88 rfl (lv_at hl 3 rfl) ?_
      refine pb_iload C dX4_add_89 (lv_at hl 4 rfl) ?_
      refine pb_aload_n C dX4_add_91 rfl (lv_at hl 0 rfl) ?_
      refine pb_get C in_X4 hO.r (ci := 3) rfl 0 (by decide) q410 (fun _ h9 => h9) (v := .ref (e)) rfl dX4_add_92 ?_
      refine pb_iload C dX4_add_95 (lv_at hl 4 rfl) ?_
      refine pb_iald C hA.b (i := ((k : Nat) : Int)) (v := .int (iZ ((f k)))) (by omega) rfl dX4_add_97 ?_
      refine pb_iast C hN (i := ((k : Nat) : Int)) (by omega) (by omega) dX4_add_98 fun H5_ hu_ hN => ?_
      rw [pb_upZ, Int.toNat_natCast, mdZ_step f (fun _ => 0) k rfl] at hN
      have hG := hG.kept (hu_.z (by omega))
      have hs_H5_ := hu_.1
      have hO := hO.kept (hu_.2 _ (by omega))
      have hA := hA.kept (hu_.2 _ (by omega))
      have hFF := hFF.tr (hu_.f.mono (fun q _ (hq : q < z) => show q ≠ _ from by omega))
      refine pb_iinc C dX4_add_99 hl (j := 4) (x := (((k : Nat) : Int))) rfl (by decide) rfl fun ls hl => ?_
      have hl : lv_has ls 5 [(4, .int (iZ ((((k + 1) : Nat) : Int)))), (0, .ref (a)), (1, .int (iZ (l_))), (2, .int (iZ (r))), (3, .ref (x))] := hl
      refine pb_goto C dX4_add_102 (tgt := 79) (by decide) ?_
      exact pb_V.mono (by omega) (by omega) (ih79 _ (by omega) (k + 1) x H5_ rfl hG hx (by omega) (by omega) hO hA hN hFF ls (lv_sub hl [1, 2, 3, 4, 0] rfl))
  refine pb_iload_n C dX4_add_0 rfl (lv_at hl 1 rfl) ?_
  refine pb_iload_n C dX4_add_1 rfl (lv_at hl 2 rfl) ?_
  refine pb_icmp_lt C dX4_add_2 (x := l_) (y := r) (tgt := 6) (by decide) (by omega) (by omega) (fun c2_ => ?_) (fun c2_ => ?_)
  · refine pb_aload_n C dX4_add_6 rfl (lv_at hl 0 rfl) ?_
    refine pb_get C in_X4 hO.r (ci := 3) rfl 1 (by decide) q411 (fun _ h9 => h9) (v := .int (iZ (((E.length : Nat) : Int)))) rfl dX4_add_7 ?_
    refine pb_if_le C dX4_add_10 (x := ((E.length : Nat) : Int)) (tgt := 55) (by decide) (by omega) (fun c10_ => ?_) (fun c10_ => ?_)
    · refine pb_aload_n C dX4_add_55 rfl (lv_at hl 0 rfl) ?_
      refine pb_get C in_X4 hO.r (ci := 3) rfl 1 (by decide) q411 (fun _ h9 => h9) (v := .int (iZ (((E.length : Nat) : Int)))) rfl dX4_add_56 ?_
      refine pb_aload_n C dX4_add_59 rfl (lv_at hl 0 rfl) ?_
      refine pb_get C in_X4 hO.r (ci := 3) rfl 0 (by decide) q410 (fun _ h9 => h9) (v := .ref (e)) rfl dX4_add_60 ?_
      refine pb_alen C (t := 0) (by decide) hA.b dX4_add_63 ?_
      refine pb_icmp_ne C dX4_add_64 (x := ((E.length : Nat) : Int)) (y := ((m : Nat) : Int)) (tgt := 110) (by decide) (by omega) (by omega) (fun c64_ => ?_) (fun c64_ => ?_)
      · omega
      · refine pb_ic C dX4_add_67 ?_
        refine pb_aload_n C dX4_add_68 rfl (lv_at hl 0 rfl) ?_
        refine pb_get C in_X4 hO.r (ci := 3) rfl 1 (by decide) q411 (fun _ h9 => h9) (v := .int (iZ (((E.length : Nat) : Int)))) rfl dX4_add_69 ?_
        refine pb_imul C dX4_add_72 ?_
        refine pb_newaE C 0 (by decide) (atype := .int) rfl q417 (n := (2 * E.length)) (by omega) rfl (bc' := 0) (bs' := 2 * m - ((2 * E.length))) (by omega) (by omega) dX4_add_73 fun a6_ H6_ ha_ hn_ hN6_ => ?_
        have hs6_ : H6_.size = H0.size + 1 := hn_.1
        have hG := hG.kept (hn_.f.mono (fun _ _ _ => trivial))
        have hO := hO.kept (hn_.2 _ hO.lt)
        have hA := hA.kept (hn_.2 _ hA.lt)
        have hFF := hFF.tr (hn_.f.mono (fun _ _ _ => trivial))
        have a6__e : a6_ = H0.size := ha_
        have hN6_ : pb_A w H6_ (a6_) 0 ((2 * E.length)) (fun _ => .int (iZ (0))) := hN6_
        refine pb_astore_n C dX4_add_75 rfl hl (by decide) rfl fun ls hl => ?_
        have hl : lv_has ls 5 [(3, .ref (a6_)), (0, .ref (a)), (1, .int (iZ (l_))), (2, .int (iZ (r)))] := hl
        refine pb_ic C dX4_add_76 ?_
        refine pb_istore C dX4_add_77 hl (by decide) rfl fun ls hl => ?_
        have hl : lv_has ls 5 [(4, .int (iZ (0))), (3, .ref (a6_)), (0, .ref (a)), (1, .int (iZ (l_))), (2, .int (iZ (r)))] := hl
        exact pb_V.mono (by omega) (by omega) (L79 _ 0 a6_ H6_ rfl hG (by omega) (by omega) (by omega) hO hA (by rw [mdZ_0]; exact hN6_) hFF ls (lv_sub hl [2, 3, 4, 1, 0] rfl))
    · refine pb_iload_n C dX4_add_13 rfl (lv_at hl 1 rfl) ?_
      refine pb_aload_n C dX4_add_14 rfl (lv_at hl 0 rfl) ?_
      refine pb_get C in_X4 hO.r (ci := 3) rfl 0 (by decide) q410 (fun _ h9 => h9) (v := .ref (e)) rfl dX4_add_15 ?_
      refine pb_aload_n C dX4_add_18 rfl (lv_at hl 0 rfl) ?_
      refine pb_get C in_X4 hO.r (ci := 3) rfl 1 (by decide) q411 (fun _ h9 => h9) (v := .int (iZ (((E.length : Nat) : Int)))) rfl dX4_add_19 ?_
      refine pb_ic C dX4_add_22 ?_
      refine pb_isub C dX4_add_23 ?_
      refine pb_eq (g2 := F0 m_ 24 ls [.int (iZ ((((E.length - 1) : Nat) : Int))), .ref (e), .int (iZ (l_))]) (congrArg (fun z9 => F0 m_ 24 ls [.int (iZ z9), .ref (e), .int (iZ (l_))]) (show (((E.length : Nat) : Int) - 1) = (((E.length - 1) : Nat) : Int) from (by omega))) ?_
      have hlr := hlr (by omega)
      refine pb_iald C hA.b (i := (((E.length - 1) : Nat) : Int)) (v := .int (iZ ((lastE E)))) (by omega) (congrArg (fun z : Int => Value.int (iZ z)) (show f (E.length - 1) = lastE E from agr_last hag (by omega))) dX4_add_24 ?_
      refine pb_icmp_gt C dX4_add_25 (x := l_) (y := (lastE E)) (tgt := 55) (by decide) (by omega) (by omega) (fun c25_ => ?_) (fun c25_ => ?_)
      · refine pb_aload_n C dX4_add_55 rfl (lv_at hl 0 rfl) ?_
        refine pb_get C in_X4 hO.r (ci := 3) rfl 1 (by decide) q411 (fun _ h9 => h9) (v := .int (iZ (((E.length : Nat) : Int)))) rfl dX4_add_56 ?_
        refine pb_aload_n C dX4_add_59 rfl (lv_at hl 0 rfl) ?_
        refine pb_get C in_X4 hO.r (ci := 3) rfl 0 (by decide) q410 (fun _ h9 => h9) (v := .ref (e)) rfl dX4_add_60 ?_
        refine pb_alen C (t := 0) (by decide) hA.b dX4_add_63 ?_
        refine pb_icmp_ne C dX4_add_64 (x := ((E.length : Nat) : Int)) (y := ((m : Nat) : Int)) (tgt := 110) (by decide) (by omega) (by omega) (fun c64_ => ?_) (fun c64_ => ?_)
        · omega
        · refine pb_ic C dX4_add_67 ?_
          refine pb_aload_n C dX4_add_68 rfl (lv_at hl 0 rfl) ?_
          refine pb_get C in_X4 hO.r (ci := 3) rfl 1 (by decide) q411 (fun _ h9 => h9) (v := .int (iZ (((E.length : Nat) : Int)))) rfl dX4_add_69 ?_
          refine pb_imul C dX4_add_72 ?_
          refine pb_newaE C 0 (by decide) (atype := .int) rfl q417 (n := (2 * E.length)) (by omega) rfl (bc' := 0) (bs' := 2 * m - ((2 * E.length))) (by omega) (by omega) dX4_add_73 fun a7_ H7_ ha_ hn_ hN7_ => ?_
          have hs7_ : H7_.size = H0.size + 1 := hn_.1
          have hG := hG.kept (hn_.f.mono (fun _ _ _ => trivial))
          have hO := hO.kept (hn_.2 _ hO.lt)
          have hA := hA.kept (hn_.2 _ hA.lt)
          have hFF := hFF.tr (hn_.f.mono (fun _ _ _ => trivial))
          have a7__e : a7_ = H0.size := ha_
          have hN7_ : pb_A w H7_ (a7_) 0 ((2 * E.length)) (fun _ => .int (iZ (0))) := hN7_
          refine pb_astore_n C dX4_add_75 rfl hl (by decide) rfl fun ls hl => ?_
          have hl : lv_has ls 5 [(3, .ref (a7_)), (0, .ref (a)), (1, .int (iZ (l_))), (2, .int (iZ (r)))] := hl
          refine pb_ic C dX4_add_76 ?_
          refine pb_istore C dX4_add_77 hl (by decide) rfl fun ls hl => ?_
          have hl : lv_has ls 5 [(4, .int (iZ (0))), (3, .ref (a7_)), (0, .ref (a)), (1, .int (iZ (l_))), (2, .int (iZ (r)))] := hl
          exact pb_V.mono (by omega) (by omega) (L79 _ 0 a7_ H7_ rfl hG (by omega) (by omega) (by omega) hO hA (by rw [mdZ_0]; exact hN7_) hFF ls (lv_sub hl [2, 3, 4, 1, 0] rfl))
      · exact (hg.2.1 ⟨by omega, by omega⟩).elim
  · omega

theorem met_X4_add {w : pb_W} (l : Launch) {H0 : Heap} (z a m : Nat) (E : List Int) (hz : w.2.2.2 ≤ z) (hS : Sb w H0 z a E m) (l_ r : Int) (hl_ : -1000 ≤ l_ ∧ l_ ≤ 1000) (hr : -1000 ≤ r ∧ r ≤ 1000) (hL : (spadd E l_ r).length ≤ 64) : pb_M w l yX4_add cX4_add 5 none 1 (spc E l_ r m) (sps E l_ r m) [.ref (a), .int (iZ (l_)), .int (iZ (r))] H0 (pb_qv (fun H1 => Sb w H1 z a (spadd E l_ r) (spm E l_ r m) ∧ pb_F (fun q => q < z) H0 H1)) := by
  by_cases hg : spG E l_ r m
  · have h64 : 2 * m ≤ 64 := by
      obtain ⟨e, f, h1, h2, h3, hO, hA, hag, hle, hrg, hm, hev⟩ := hS
      have h9 := hL
      unfold spadd at h9
      have g1 := hg.1
      have g3 := hg.2.2
      rw [if_neg (by omega), if_neg hg.2.1, List.length_append] at h9
      have h8 : [l_, r].length = 2 := rfl
      omega
    rw [show spc E l_ r m = 1 from if_pos hg, show sps E l_ r m = 2 * m from if_pos hg]
    exact met_X4_add_1 l z a m E hz hS l_ r hl_ hr hg h64
  · rw [show spc E l_ r m = 0 from if_neg hg, show sps E l_ r m = 0 from if_neg hg]
    exact met_X4_add_0 l z a m E hz hS l_ r hl_ hr hg

