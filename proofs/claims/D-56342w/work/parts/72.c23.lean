set_option maxRecDepth 100000
set_option maxHeartbeats 1000000 in
theorem met_X12_spread {w : pb_W} (l : Launch) {H0 : Heap} (z c r d : Nat) (P : Nat → Prop) (g wi : Nat → Nat) (co : Bool) (hC : Cb w H0 z c r g) (hz : w.2.2.2 ≤ z) (hQ2 : Cq w H0 P d wi) (hPn : ¬ P r) : pb_M w l yX12_spread cX12_spread 8 (some .boolean) 1 (1) (24) [.ref (c), .ref (d), .int (iZ ((bI (co))))] H0 (pb_qi (fun v H1 => v = bI (spB g wi co 24) ∧ Cb w H1 z c r (spN g wi co 24) ∧ pb_F (fun q => q ≠ r) H0 H1)) := by
  refine pb_of (by decide +kernel) (Nat.le_of_ble_eq_true rfl) ?_
  intro p_ e_ s_ m_ ar_ bl_ me_ co_ ls C hh hG hl
  have hl : lv_has ls 8 [(0, .ref (c)), (1, .ref (d)), (2, .int (iZ ((bI (co)))))] := hl
  have hFF : pb_F (fun q => q ≠ r) H0 H0 := pb_F.rf
  have hg0 := hC.ok
  have hz1 := hC.2.1
  have hw0 : gok wi := by obtain ⟨r9, h1, h2, h3, h4, h5⟩ := hQ2; exact h5
  have hrlt := hC.2.2.2.1.lt
  obtain ⟨hcz, hrz, hCO, hCA, hCok⟩ := id hC
  have L17 : ∀ (n_ : Nat) (n b : Nat) (m : Bool) (H : Heap), 24 - n = n_ → (pb_G w s_ H) → (n ≤ 24) → (b ≠ r ∧ H0.size ≤ b) → (m = spB g wi co n) → (Cb w H z c r (spN g wi co n)) → (pb_A w H b 0 24 (pb_nf g)) → (pb_F (fun q => q ≠ r) H0 H) → ∀ (ls : Array Slot), lv_has ls 8 [(0, .ref (c)), (1, .ref (d)), (2, .int (iZ ((bI (co))))), (3, .ref (b)), (4, .int (iZ ((bI (m))))), (5, .int (iZ (((n : Nat) : Int))))] → pb_V w.2.2.2 p_ l e_ (pb_rm 1 (1) (24)) s_ m_ ar_ bl_ me_ co_ H (0) (0) (pb_E w bl_ ar_ s_ (1) (24) (pb_qi (fun v H1 => v = bI (spB g wi co 24) ∧ Cb w H1 z c r (spN g wi co 24) ∧ pb_F (fun q => q ≠ r) H0 H1))) (F0 m_ 17 ls []) := by
    intro n_
    induction n_ using Nat.strongRecOn with
    | _ n_ ih17 =>
    intro n b m H hm_ hG hn hbr hm hC hb hFF ls hl
    obtain ⟨hcz, hrz, hCO, hCA, hCok⟩ := id hC
    have hQ2 := hQ2.kept (hFF.mono (fun q _ hq => fun e9 => hPn (e9 ▸ hq)))
    obtain ⟨r2, hPc2, hPr2, hO2, hA2, hok2⟩ := id hQ2
    have hgn := hg0.1 n
    have hwn := hok2.1 n
    have hne2 : r2 ≠ r := fun e9 => hPn (e9 ▸ hPr2)
    have hnc2 : d ≠ r := fun e9 => hPn (e9 ▸ hPc2)
    have hncr : c ≠ r := hCO.r.ty.1.ne C.inj hCA.b.ty (by decide) (by decide) (by decide)
    have L57 : ∀ (bes : Nat), (bes = besG g n) → (n < 24) →  ∀ (ls : Array Slot), lv_has ls 8 [(0, .ref (c)), (1, .ref (d)), (2, .int (iZ ((bI (co))))), (3, .ref (b)), (4, .int (iZ ((bI (m))))), (5, .int (iZ (((n : Nat) : Int))))] → pb_V w.2.2.2 p_ l e_ (pb_rm 1 (1) (24)) s_ m_ ar_ bl_ me_ co_ H (0) (0) (pb_E w bl_ ar_ s_ (1) (24) (pb_qi (fun v H1 => v = bI (spB g wi co 24) ∧ Cb w H1 z c r (spN g wi co 24) ∧ pb_F (fun q => q ≠ r) H0 H1))) (F0 m_ 57 ls [.int (iZ (((bes : Nat) : Int)))]) := by
      intro bes hbes hn1 ls hl
      have hbl : bes < 16777216 := by rw [hbes]; exact besG_lt hg0 n
      have L101 : ∀ (x : Nat), (x = spX co bes) →  ∀ (ls : Array Slot), lv_has ls 8 [(0, .ref (c)), (1, .ref (d)), (2, .int (iZ ((bI (co))))), (3, .ref (b)), (4, .int (iZ ((bI (m))))), (5, .int (iZ (((n : Nat) : Int)))), (6, .int (iZ (((bes : Nat) : Int))))] → pb_V w.2.2.2 p_ l e_ (pb_rm 1 (1) (24)) s_ m_ ar_ bl_ me_ co_ H (0) (0) (pb_E w bl_ ar_ s_ (1) (24) (pb_qi (fun v H1 => v = bI (spB g wi co 24) ∧ Cb w H1 z c r (spN g wi co 24) ∧ pb_F (fun q => q ≠ r) H0 H1))) (F0 m_ 101 ls [.int (iZ (((x : Nat) : Int))), .int (iZ ((((((g n ||| g n <<< 1) ||| g n >>> 1) ||| bes) : Nat) : Int)))]) := by
        intro x hx ls hl
        have L147 : ∀ (dd : Bool) (H : Heap), (pb_G w s_ H) → (dd = decide (spC g wi co n ≠ g n)) → (Cb w H z c r (spN g wi co (n + 1))) → (pb_A w H b 0 24 (pb_nf g)) → (pb_F (fun q => q ≠ r) H0 H) →  ∀ (ls : Array Slot), lv_has ls 8 [(0, .ref (c)), (1, .ref (d)), (2, .int (iZ ((bI (co))))), (3, .ref (b)), (5, .int (iZ (((n : Nat) : Int))))] → pb_V w.2.2.2 p_ l e_ (pb_rm 1 (1) (24)) s_ m_ ar_ bl_ me_ co_ H (0) (0) (pb_E w bl_ ar_ s_ (1) (24) (pb_qi (fun v H1 => v = bI (spB g wi co 24) ∧ Cb w H1 z c r (spN g wi co 24) ∧ pb_F (fun q => q ≠ r) H0 H1))) (F0 m_ 147 ls [.int (iZ ((bI (dd)))), .int (iZ ((bI (m))))]) := by
          intro dd H hG hdd hC9 hb hFF ls hl
          refine pb_iorB C dX12_spread_147 ?_
          refine pb_istore C dX12_spread_148 hl (by decide) rfl fun ls hl => ?_
          have hl : lv_has ls 8 [(4, .int (iZ ((bI ((m || dd)))))), (0, .ref (c)), (1, .ref (d)), (2, .int (iZ ((bI (co))))), (3, .ref (b)), (5, .int (iZ (((n : Nat) : Int))))] := hl
          refine pb_iinc C dX12_spread_150 hl (j := 5) (x := (((n : Nat) : Int))) rfl (by decide) rfl fun ls hl => ?_
          have hl : lv_has ls 8 [(5, .int (iZ ((((n + 1) : Nat) : Int)))), (4, .int (iZ ((bI ((m || dd)))))), (0, .ref (c)), (1, .ref (d)), (2, .int (iZ ((bI (co))))), (3, .ref (b))] := hl
          refine pb_goto C dX12_spread_153 (tgt := 17) (by decide) ?_
          exact pb_V.mono (by omega) (by omega) (ih17 _ (by omega) (n + 1) b (m || dd) H rfl hG (by omega) (by omega) (by rw [spB, ← hm, ← hdd]) hC9 hb hFF ls (lv_sub hl [2, 3, 4, 5, 1, 0] rfl))
        refine pb_ior C dX12_spread_101 (x := (((g n ||| g n <<< 1) ||| g n >>> 1) ||| bes)) (y := x) ?_
        refine pb_istore C dX12_spread_102 hl (by decide) rfl fun ls hl => ?_
        have hl : lv_has ls 8 [(7, .int (iZ (((((((g n ||| g n <<< 1) ||| g n >>> 1) ||| bes) ||| x) : Nat) : Int)))), (0, .ref (c)), (1, .ref (d)), (2, .int (iZ ((bI (co))))), (3, .ref (b)), (4, .int (iZ ((bI (m))))), (5, .int (iZ (((n : Nat) : Int)))), (6, .int (iZ (((bes : Nat) : Int))))] := hl
        refine pb_aload_n C dX12_spread_104 rfl (lv_at hl 1 rfl) ?_
        refine pb_get C in_X12 hCO.r (ci := 11) rfl 0 (by decide) q980 (fun _ h9 => h9) (v := .ref (r)) rfl dX12_spread_105 ?_
        refine pb_iload C dX12_spread_108 (lv_at hl 6 rfl) ?_
        refine pb_iload C dX12_spread_110 (lv_at hl 0 rfl) ?_
        refine pb_aload_n C dX12_spread_112 rfl (lv_at hl 2 rfl) ?_
        refine pb_get C in_X12 hO2 (ci := 11) rfl 0 (by decide) q980 (fun _ h9 => h9) (v := .ref (r2)) rfl dX12_spread_113 ?_
        refine pb_iload C dX12_spread_116 (lv_at hl 6 rfl) ?_
        refine pb_iald C hA2 (i := ((n : Nat) : Int)) (v := .int (iZ ((((wi n) : Nat) : Int)))) (by omega) rfl dX12_spread_118 ?_
        refine pb_iand C dX12_spread_119 (x := ((((g n ||| g n <<< 1) ||| g n >>> 1) ||| bes) ||| x)) (y := (wi n)) ?_
        refine pb_aload_n C dX12_spread_120 rfl (lv_at hl 4 rfl) ?_
        refine pb_iload C dX12_spread_121 (lv_at hl 6 rfl) ?_
        refine pb_iald C hb.b (i := ((n : Nat) : Int)) (v := .int (iZ ((((g n) : Nat) : Int)))) (by omega) rfl dX12_spread_123 ?_
        refine pb_ior C dX12_spread_124 (x := (((((g n ||| g n <<< 1) ||| g n >>> 1) ||| bes) ||| x) &&& (wi n))) (y := (g n)) ?_
        refine pb_eq (g2 := F0 m_ 125 ls [.int (iZ ((((spC g wi co n) : Nat) : Int))), .int (iZ (((n : Nat) : Int))), .ref (r)]) (congrArg (fun z9 => F0 m_ 125 ls [.int (iZ z9), .int (iZ (((n : Nat) : Int))), .ref (r)]) (show ((((((((g n ||| g n <<< 1) ||| g n >>> 1) ||| bes) ||| x) &&& (wi n)) ||| (g n)) : Nat) : Int) = (((spC g wi co n) : Nat) : Int) from (congrArg (fun z : Nat => ((z : Nat) : Int)) (spC_eq hbes hx).symm))) ?_
        refine pb_iast C hCA (i := ((n : Nat) : Int)) (by omega) (by omega) dX12_spread_125 fun H1_ hu_ hCA => ?_
        rw [pb_upN, Int.toNat_natCast, spN_step] at hCA
        have hG := hG.kept (hu_.z (by omega))
        have hs_H1_ := hu_.1
        have hCO := hCO.kept (hu_.2 _ hncr)
        have hO2 := hO2.kept (hu_.2 _ hnc2)
        have hA2 := hA2.kept (hu_.2 _ hne2)
        have hb := hb.kept (hu_.2 _ hbr.1)
        have hFF := hFF.tr (hu_.f)
        have hC9 : Cb w H1_ z c r (spN g wi co (n + 1)) := ⟨hcz, hrz, hCO, hCA, gok_sp hg0 hw0 co (by omega)⟩
        have hsl := spC_lt hg0 hw0 co n
        refine pb_iload C dX12_spread_126 (lv_at hl 5 rfl) ?_
        refine pb_aload_n C dX12_spread_128 rfl (lv_at hl 1 rfl) ?_
        refine pb_get C in_X12 hCO.r (ci := 11) rfl 0 (by decide) q980 (fun _ h9 => h9) (v := .ref (r)) rfl dX12_spread_129 ?_
        refine pb_iload C dX12_spread_132 (lv_at hl 6 rfl) ?_
        refine pb_iald C hCA.b (i := ((n : Nat) : Int)) (v := .int (iZ ((((spC g wi co n) : Nat) : Int)))) (by omega) (by rw [Int.toNat_natCast]; exact congrArg (fun z : Nat => Value.int (iZ ((z : Nat) : Int))) (if_pos (Nat.lt_succ_self n))) dX12_spread_134 ?_
        refine pb_aload_n C dX12_spread_135 rfl (lv_at hl 4 rfl) ?_
        refine pb_iload C dX12_spread_136 (lv_at hl 6 rfl) ?_
        refine pb_iald C hb.b (i := ((n : Nat) : Int)) (v := .int (iZ ((((g n) : Nat) : Int)))) (by omega) rfl dX12_spread_138 ?_
        refine pb_icmp_eq C dX12_spread_139 (x := (((spC g wi co n) : Nat) : Int)) (y := (((g n) : Nat) : Int)) (tgt := 146) (by decide) (by omega) (by omega) (fun c139_ => ?_) (fun c139_ => ?_)
        · refine pb_ic C dX12_spread_146 ?_
          exact pb_V.mono (by omega) (by omega) (L147 false H1_ hG (decide_eq_false (by omega)).symm hC9 hb hFF ls (lv_sub hl [1, 2, 3, 4, 6] rfl))
        · refine pb_ic C dX12_spread_142 ?_
          refine pb_goto C dX12_spread_143 (tgt := 147) (by decide) ?_
          exact pb_V.mono (by omega) (by omega) (L147 true H1_ hG (decide_eq_true (by omega)).symm hC9 hb hFF ls (lv_sub hl [1, 2, 3, 4, 6] rfl))
      refine pb_istore C dX12_spread_57 hl (by decide) rfl fun ls hl => ?_
      have hl : lv_has ls 8 [(6, .int (iZ (((bes : Nat) : Int)))), (0, .ref (c)), (1, .ref (d)), (2, .int (iZ ((bI (co))))), (3, .ref (b)), (4, .int (iZ ((bI (m))))), (5, .int (iZ (((n : Nat) : Int))))] := hl
      refine pb_aload_n C dX12_spread_59 rfl (lv_at hl 4 rfl) ?_
      refine pb_iload C dX12_spread_60 (lv_at hl 6 rfl) ?_
      refine pb_iald C hb.b (i := ((n : Nat) : Int)) (v := .int (iZ ((((g n) : Nat) : Int)))) (by omega) rfl dX12_spread_62 ?_
      refine pb_aload_n C dX12_spread_63 rfl (lv_at hl 4 rfl) ?_
      refine pb_iload C dX12_spread_64 (lv_at hl 6 rfl) ?_
      refine pb_iald C hb.b (i := ((n : Nat) : Int)) (v := .int (iZ ((((g n) : Nat) : Int)))) (by omega) rfl dX12_spread_66 ?_
      refine pb_ic C dX12_spread_67 ?_
      refine pb_ishl C dX12_spread_68 (x := (g n)) (y := 1) (by omega) ?_
      refine pb_ior C dX12_spread_69 (x := (g n)) (y := ((g n) <<< 1)) ?_
      refine pb_aload_n C dX12_spread_70 rfl (lv_at hl 4 rfl) ?_
      refine pb_iload C dX12_spread_71 (lv_at hl 6 rfl) ?_
      refine pb_iald C hb.b (i := ((n : Nat) : Int)) (v := .int (iZ ((((g n) : Nat) : Int)))) (by omega) rfl dX12_spread_73 ?_
      refine pb_ic C dX12_spread_74 ?_
      refine pb_ishr C dX12_spread_75 (x := (g n)) (y := 1) (by omega) (by omega) ?_
      refine pb_ior C dX12_spread_76 (x := ((g n) ||| ((g n) <<< 1))) (y := ((g n) >>> 1)) ?_
      refine pb_iload C dX12_spread_77 (lv_at hl 0 rfl) ?_
      refine pb_ior C dX12_spread_79 (x := (((g n) ||| ((g n) <<< 1)) ||| ((g n) >>> 1))) (y := bes) ?_
      refine pb_istore C dX12_spread_80 hl (by decide) rfl fun ls hl => ?_
      have hl : lv_has ls 8 [(7, .int (iZ (((((((g n) ||| ((g n) <<< 1)) ||| ((g n) >>> 1)) ||| bes) : Nat) : Int)))), (6, .int (iZ (((bes : Nat) : Int)))), (0, .ref (c)), (1, .ref (d)), (2, .int (iZ ((bI (co))))), (3, .ref (b)), (4, .int (iZ ((bI (m))))), (5, .int (iZ (((n : Nat) : Int))))] := hl
      refine pb_iload C dX12_spread_82 (lv_at hl 0 rfl) ?_
      refine pb_iload_n C dX12_spread_84 rfl (lv_at hl 4 rfl) ?_
      refine pb_ifB_eq C dX12_spread_85 (tgt := 100) (by decide) (fun c85_ => ?_) (fun c85_ => ?_)
      · refine pb_ic C dX12_spread_100 ?_
        exact pb_V.mono (by omega) (by omega) (L101 0 (by rw [spX, if_neg (by rw [c85_]; exact Bool.false_ne_true)]) ls (lv_sub hl [2, 3, 4, 5, 6, 7, 1] rfl))
      · refine pb_iload C dX12_spread_88 (lv_at hl 1 rfl) ?_
        refine pb_ic C dX12_spread_90 ?_
        refine pb_ishl C dX12_spread_91 (x := bes) (y := 1) (by omega) ?_
        refine pb_iload C dX12_spread_92 (lv_at hl 1 rfl) ?_
        refine pb_ic C dX12_spread_94 ?_
        refine pb_ishr C dX12_spread_95 (x := bes) (y := 1) (by omega) (by omega) ?_
        refine pb_ior C dX12_spread_96 (x := (bes <<< 1)) (y := (bes >>> 1)) ?_
        refine pb_goto C dX12_spread_97 (tgt := 101) (by decide) ?_
        exact pb_V.mono (by omega) (by omega) (L101 ((bes <<< 1) ||| (bes >>> 1)) (by rw [spX, if_pos c85_]) ls (lv_sub hl [2, 3, 4, 5, 6, 7, 1] rfl))
    refine pb_iload C dX12_spread_17 (lv_at hl 5 rfl) ?_
    refine pb_bip C dX12_spread_19 (by decide) ?_
    refine pb_icmp_ge C dX12_spread_21 (x := ((n : Nat) : Int)) (y := 24) (tgt := 156) (by decide) (by omega) (by omega) (fun c21_ => ?_) (fun c21_ => ?_)
    · refine pb_iload C dX12_spread_156 (lv_at hl 4 rfl) ?_
      exact pb_zret C dX12_spread_158 (pb_nar (m)) (⟨_, rfl, by rw [hm, show n = 24 from by omega], by rw [show 24 = n from by omega]; exact hC, hFF⟩)
    · refine pb_iload C dX12_spread_24 (lv_at hl 5 rfl) ?_
      refine pb_if_le C dX12_spread_26 (x := ((n : Nat) : Int)) (tgt := 38) (by decide) (by omega) (fun c26_ => ?_) (fun c26_ => ?_)
      · refine pb_ic C dX12_spread_38 ?_
        refine pb_iload C dX12_spread_39 (lv_at hl 5 rfl) ?_
        refine pb_bip C dX12_spread_41 (by decide) ?_
        refine pb_icmp_ge C dX12_spread_43 (x := ((n : Nat) : Int)) (y := 23) (tgt := 55) (by decide) (by omega) (by omega) (fun c43_ => ?_) (fun c43_ => ?_)
        · refine pb_ic C dX12_spread_55 ?_
          refine pb_ior C dX12_spread_56 (x := 0) (y := 0) ?_
          exact pb_V.mono (by omega) (by omega) (L57 (0 ||| 0) (by rw [besG, if_neg (by omega), if_neg (by omega)]) (by omega) ls (lv_sub hl [0, 1, 2, 3, 4, 5] rfl))
        · refine pb_aload_n C dX12_spread_46 rfl (lv_at hl 3 rfl) ?_
          refine pb_iload C dX12_spread_47 (lv_at hl 5 rfl) ?_
          refine pb_ic C dX12_spread_49 ?_
          refine pb_iadd C dX12_spread_50 ?_
          refine pb_iald C hb.b (i := (((n + 1) : Nat) : Int)) (v := .int (iZ ((((g ((n + 1))) : Nat) : Int)))) (by omega) rfl dX12_spread_51 ?_
          refine pb_goto C dX12_spread_52 (tgt := 56) (by decide) ?_
          refine pb_ior C dX12_spread_56 (x := 0) (y := (g ((n + 1)))) ?_
          exact pb_V.mono (by omega) (by omega) (L57 (0 ||| (g ((n + 1)))) (by rw [besG, if_neg (by omega), if_pos (by omega)]) (by omega) ls (lv_sub hl [0, 1, 2, 3, 4, 5] rfl))
      · refine pb_aload_n C dX12_spread_29 rfl (lv_at hl 3 rfl) ?_
        refine pb_iload C dX12_spread_30 (lv_at hl 5 rfl) ?_
        refine pb_ic C dX12_spread_32 ?_
        refine pb_isub C dX12_spread_33 ?_
        refine pb_eq (g2 := F0 m_ 34 ls [.int (iZ ((((n - 1) : Nat) : Int))), .ref (b)]) (congrArg (fun z9 => F0 m_ 34 ls [.int (iZ z9), .ref (b)]) (show (((n : Nat) : Int) - 1) = (((n - 1) : Nat) : Int) from (by omega))) ?_
        refine pb_iald C hb.b (i := (((n - 1) : Nat) : Int)) (v := .int (iZ ((((g ((n - 1))) : Nat) : Int)))) (by omega) rfl dX12_spread_34 ?_
        refine pb_goto C dX12_spread_35 (tgt := 39) (by decide) ?_
        refine pb_iload C dX12_spread_39 (lv_at hl 5 rfl) ?_
        refine pb_bip C dX12_spread_41 (by decide) ?_
        refine pb_icmp_ge C dX12_spread_43 (x := ((n : Nat) : Int)) (y := 23) (tgt := 55) (by decide) (by omega) (by omega) (fun c43_ => ?_) (fun c43_ => ?_)
        · refine pb_ic C dX12_spread_55 ?_
          refine pb_ior C dX12_spread_56 (x := (g ((n - 1)))) (y := 0) ?_
          exact pb_V.mono (by omega) (by omega) (L57 ((g ((n - 1))) ||| 0) (by rw [besG, if_pos (by omega), if_neg (by omega)]) (by omega) ls (lv_sub hl [0, 1, 2, 3, 4, 5] rfl))
        · refine pb_aload_n C dX12_spread_46 rfl (lv_at hl 3 rfl) ?_
          refine pb_iload C dX12_spread_47 (lv_at hl 5 rfl) ?_
          refine pb_ic C dX12_spread_49 ?_
          refine pb_iadd C dX12_spread_50 ?_
          refine pb_iald C hb.b (i := (((n + 1) : Nat) : Int)) (v := .int (iZ ((((g ((n + 1))) : Nat) : Int)))) (by omega) rfl dX12_spread_51 ?_
          refine pb_goto C dX12_spread_52 (tgt := 56) (by decide) ?_
          refine pb_ior C dX12_spread_56 (x := (g ((n - 1)))) (y := (g ((n + 1)))) ?_
          exact pb_V.mono (by omega) (by omega) (L57 ((g ((n - 1))) ||| (g ((n + 1)))) (by rw [besG, if_pos (by omega), if_pos (by omega)]) (by omega) ls (lv_sub hl [0, 1, 2, 3, 4, 5] rfl))
  refine pb_aload_n C dX12_spread_0 rfl (lv_at hl 0 rfl) ?_
  refine pb_get C in_X12 hCO.r (ci := 11) rfl 0 (by decide) q980 (fun _ h9 => h9) (v := .ref (r)) rfl dX12_spread_1 ?_
  refine pb_clone C (ad := "[I") (by decide) hCA.b (pb_adI C) (fun _ _ => rfl) q1012 q1013 q1014 q1015 hl.1 ⟨(Nat.le_of_ble_eq_true rfl), (Nat.le_of_ble_eq_true rfl)⟩ (bc' := 0) (bs' := 0) (by omega) (by omega) dX12_spread_4 fun a2_ H2_ ha_ hn_ hN2_ => ?_
  have hs2_ : H2_.size = H0.size + 1 := hn_.1
  have hG := hG.kept (hn_.f.mono (fun _ _ _ => trivial))
  have hCO := hCO.kept (hn_.2 _ hCO.lt)
  have hCA := hCA.kept (hn_.2 _ hCA.lt)
  have hFF := hFF.tr (hn_.f.mono (fun _ _ _ => trivial))
  have a2__e : a2_ = H0.size := ha_
  refine pb_castB C hN2_.b (pb_adI C) q1016 dX12_spread_7 ?_
  refine pb_astore_n C dX12_spread_10 rfl hl (by decide) rfl fun ls hl => ?_
  have hl : lv_has ls 8 [(3, .ref (a2_)), (0, .ref (c)), (1, .ref (d)), (2, .int (iZ ((bI (co)))))] := hl
  refine pb_ic C dX12_spread_11 ?_
  refine pb_istore C dX12_spread_12 hl (by decide) rfl fun ls hl => ?_
  have hl : lv_has ls 8 [(4, .int (iZ (0))), (3, .ref (a2_)), (0, .ref (c)), (1, .ref (d)), (2, .int (iZ ((bI (co)))))] := hl
  refine pb_ic C dX12_spread_14 ?_
  refine pb_istore C dX12_spread_15 hl (by decide) rfl fun ls hl => ?_
  have hl : lv_has ls 8 [(5, .int (iZ (0))), (4, .int (iZ (0))), (3, .ref (a2_)), (0, .ref (c)), (1, .ref (d)), (2, .int (iZ ((bI (co)))))] := hl
  exact pb_V.mono (by omega) (by omega) (L17 _ 0 a2_ false H2_ rfl hG (by omega) (by omega) rfl (by rw [spN_0]; exact ⟨hcz, hrz, hCO, hCA, hg0⟩) hN2_ hFF ls (lv_sub hl [3, 4, 5, 2, 1, 0] rfl))

set_option maxHeartbeats 1000000 in
theorem met_X12_takePart {w : pb_W} (l : Launch) {H0 : Heap} (z c r x y : Nat) (g : Nat → Nat) (co : Bool) (hC : Cb w H0 z c r g) (hz : w.2.2.2 ≤ z) (hx : x < 24) (hy : y < 24) : pb_M w l yX12_takePart cX12_takePart 6 (some (.object "PolygonBoard$Cells")) 3 (4 + popG (tpL g co (sdG x y))) (73 + 24 * popG (tpL g co (sdG x y))) [.ref (c), .int (iZ (((x : Nat) : Int))), .int (iZ (((y : Nat) : Int))), .int (iZ ((bI (co))))] H0 (pb_qr (fun p H1 => Cb w H1 H0.size p (H0.size + 1) (tpL g co (sdG x y)) ∧ Cb w H1 z c r (rmG g (tpL g co (sdG x y)) 24) ∧ pb_F (fun q => q < H0.size ∧ q ≠ r) H0 H1)) := by
  refine pb_of (by decide +kernel) (Nat.le_of_ble_eq_true rfl) ?_
  intro p_ e_ s_ m_ ar_ bl_ me_ co_ ls C hh hG hl
  have hl : lv_has ls 6 [(0, .ref (c)), (1, .int (iZ (((x : Nat) : Int)))), (2, .int (iZ (((y : Nat) : Int)))), (3, .int (iZ ((bI (co)))))] := hl
  have hzs := hG.1
  have hc0 := hC.2.2.1.lt
  have hr0 := hC.2.2.2.1.lt
  have hz1 := hC.2.1
  have hP0 : gok (sdG x y) := gok_up gok_0 hy (by rw [Nat.shiftLeft_eq, Nat.one_mul]; exact Nat.pow_lt_pow_right (by decide) hx)
  have L10 : ∀ (n_ : Nat) (n p : Nat) (m : Bool) (H : Heap), 602 - n = n_ → (pb_G w s_ H) → (∀ k, k < n → (k + 1 < n ∨ m = true) → spB (tpI g co (sdG x y) k) g co 24 = true) → (m = false → 0 < n ∧ spB (tpI g co (sdG x y) (n - 1)) g co 24 = false) → (Cb w H H0.size p (H0.size + 1) (tpI g co (sdG x y) n)) → (Cb w H z c r g) → (pb_F (fun q => q < H0.size ∧ q ≠ r) H0 H) → (n ≤ popG (tpL g co (sdG x y)) + 1) → ∀ (ls : Array Slot), lv_has ls 6 [(0, .ref (c)), (1, .int (iZ (((x : Nat) : Int)))), (2, .int (iZ (((y : Nat) : Int)))), (3, .int (iZ ((bI (co))))), (4, .ref (p)), (5, .int (iZ ((bI (m)))))] → pb_V w.2.2.2 p_ l e_ (pb_rm 3 (4 + popG (tpL g co (sdG x y))) (73 + 24 * popG (tpL g co (sdG x y)))) s_ m_ ar_ bl_ me_ co_ H (2 + popG (tpL g co (sdG x y)) - n) (48 + 24 * popG (tpL g co (sdG x y)) - 24 * n) (pb_E w bl_ ar_ s_ (4 + popG (tpL g co (sdG x y))) (73 + 24 * popG (tpL g co (sdG x y))) (pb_qr (fun p H1 => Cb w H1 H0.size p (H0.size + 1) (tpL g co (sdG x y)) ∧ Cb w H1 z c r (rmG g (tpL g co (sdG x y)) 24) ∧ pb_F (fun q => q < H0.size ∧ q ≠ r) H0 H1))) (F0 m_ 10 ls []) := by
    intro n_
    induction n_ using Nat.strongRecOn with
    | _ n_ ih10 =>
    intro n p m H hm_ hG hmm hmf hp hC hFF hnT0 ls hl
    obtain ⟨fsp_, hpo⟩ := hp.q.o
    obtain ⟨fsc_, hco9⟩ := hC.q.o
    refine pb_iload C dX12_takePart_10 (lv_at hl 5 rfl) ?_
    refine pb_ifB_eq C dX12_takePart_12 (tgt := 27) (by decide) (fun c12_ => ?_) (fun c12_ => ?_)
    · obtain ⟨hn0, hf9⟩ := hmf c12_
      have hTN : (tpI g co (sdG x y) n) = (tpL g co (sdG x y)) := by
              obtain ⟨k9, rfl⟩ : ∃ k9, n = k9 + 1 := ⟨n - 1, by omega⟩
              have h8 : spB (tpI g co (sdG x y) k9) g co 24 = false := hf9
              rw [tpI, sp_same h8]; exact (tp_end hC.ok hP0 (fun k hk => hmm k (by omega) (Or.inl (by omega))) h8).1
      rw [hTN] at hp
      have hpz := hp.1
      refine pb_aload_n C dX12_takePart_27 rfl (lv_at hl 0 rfl) ?_
      refine pb_aload C dX12_takePart_28 (lv_at hl 4 rfl) ?_
      refine pb_go_v (bc' := 2 + popG (tpL g co (sdG x y)) - n) (bs' := 48 + 24 * popG (tpL g co (sdG x y)) - 24 * n) (pb_runV (rest := []) C hG (met_X12_remove l z c r p _ g (tpL g co (sdG x y)) hC hz hp.q (fun h9 => by rcases h9 with h9 | h9 <;> omega)) hco9 (ci := 11) rfl (lw_V q1017 q1018 q1019 q82 q1020) ⟨rfl, hdX12_remove⟩ rfl hl.1 rfl (Nat.le_of_ble_eq_true rfl) ⟨(Nat.le_of_ble_eq_true rfl), (Nat.le_of_ble_eq_true rfl)⟩ dX12_takePart_30) (by omega) (by omega) (fun H_ hp_ => ?_)
      obtain ⟨hC, hF1⟩ := hp_
      have hp := hp.kq hF1 (show p ≠ r from by omega) (show H0.size + 1 ≠ r from by omega)
      have hFF := hFF.tr (hF1.mono (fun q _ hq => hq.2))
      refine pb_aload C dX12_takePart_33 (lv_at hl 4 rfl) ?_
      exact pb_aret C (Or.inl ⟨_, rfl⟩) dX12_takePart_35 (Or.inr ⟨_, rfl⟩) (⟨_, rfl, hp, hC, hFF⟩)
    · have hall : ∀ k, k < n → spB (tpI g co (sdG x y) k) g co 24 = true := fun k hk => hmm k hk (Or.inr c12_)
      have hnT := tp_more hC.ok hP0 hall
      have hpl := popG_le (tpL g co (sdG x y))
      refine pb_aload C dX12_takePart_15 (lv_at hl 4 rfl) ?_
      refine pb_aload_n C dX12_takePart_17 rfl (lv_at hl 0 rfl) ?_
      refine pb_iload_n C dX12_takePart_18 rfl (lv_at hl 3 rfl) ?_
      refine pb_go_i (bc' := 2 + popG (tpL g co (sdG x y)) - n - 1) (bs' := 48 + 24 * popG (tpL g co (sdG x y)) - 24 * n - 24) (pb_runV (rest := []) C hG (met_X12_spread l H0.size p (H0.size + 1) c _ (tpI g co (sdG x y) n) g co hp (by omega) hC.q (fun h9 => by rcases h9 with h9 | h9 <;> omega)) hpo (ci := 11) rfl (lw_V q1008 q1009 q1010 q82 q1011) ⟨rfl, hdX12_spread⟩ rfl hl.1 rfl (Nat.le_of_ble_eq_true rfl) ⟨(Nat.le_of_ble_eq_true rfl), (Nat.le_of_ble_eq_true rfl)⟩ dX12_takePart_19) (by omega) (by omega) (fun z_ H_ hp_ => ?_)
      obtain ⟨rfl, hp, hF1⟩ := hp_
      have hG := hG.kept (hF1.mono (fun q _ (hq : q < w.2.2.2) => show q ≠ _ from by omega))
      have hC := hC.kq hF1 (show c ≠ _ from by omega) (show r ≠ _ from by omega)
      have hFF := hFF.tr (hF1.mono (fun q _ hq => show q ≠ _ from by have := hq.1; omega))
      refine pb_istore C dX12_takePart_22 hl (by decide) rfl fun ls hl => ?_
      have hl : lv_has ls 6 [(5, .int (iZ ((bI ((spB (tpI g co (sdG x y) n) g co 24)))))), (0, .ref (c)), (1, .int (iZ (((x : Nat) : Int)))), (2, .int (iZ (((y : Nat) : Int)))), (3, .int (iZ ((bI (co))))), (4, .ref (p))] := hl
      refine pb_goto C dX12_takePart_24 (tgt := 10) (by decide) ?_
      exact pb_V.mono (by omega) (by omega) (ih10 _ (by omega) (n + 1) p (spB (tpI g co (sdG x y) n) g co 24) H_ rfl hG (fun k hk h9 => if e9 : k < n then hall k e9 else h9.elim (fun h => absurd h (by omega)) (fun h => by rw [show k = n from by omega]; exact h)) (fun h9 => ⟨by omega, h9⟩) hp hC hFF (by omega) ls (lv_sub hl [1, 2, 3, 4, 5, 0] rfl))
  refine pb_iload_n C dX12_takePart_0 rfl (lv_at hl 1 rfl) ?_
  refine pb_iload_n C dX12_takePart_1 rfl (lv_at hl 2 rfl) ?_
  refine pb_go_r (bc' := 4 + popG (tpL g co (sdG x y)) - 2) (bs' := 73 + 24 * popG (tpL g co (sdG x y)) - 25) (pb_runS (rest := []) C hG (met_X12_at l x y hx hy) (lw_S q1005 q1006 q82 q1007) hdX12_at rfl hl.1 rfl (Nat.le_of_ble_eq_true rfl) ⟨(Nat.le_of_ble_eq_true rfl), (Nat.le_of_ble_eq_true rfl)⟩ dX12_takePart_2) (by omega) (by omega) (fun p H_ hp_ => ?_)
  obtain ⟨hp, hF1⟩ := hp_
  have hG := hG.kept (hF1.mono (fun q _ (hq : q < w.2.2.2) => Nat.lt_of_lt_of_le hq hG.1))
  have hC := hC.kq hF1 hC.2.2.1.lt hC.2.2.2.1.lt
  have hFF : pb_F (fun q => q < H0.size ∧ q ≠ r) H0 H_ := hF1.mono (fun q _ h => h.1)
  refine pb_astore C dX12_takePart_5 hl (by decide) rfl fun ls hl => ?_
  have hl : lv_has ls 6 [(4, .ref (p)), (0, .ref (c)), (1, .int (iZ (((x : Nat) : Int)))), (2, .int (iZ (((y : Nat) : Int)))), (3, .int (iZ ((bI (co)))))] := hl
  refine pb_ic C dX12_takePart_7 ?_
  refine pb_istore C dX12_takePart_8 hl (by decide) rfl fun ls hl => ?_
  have hl : lv_has ls 6 [(5, .int (iZ (1))), (4, .ref (p)), (0, .ref (c)), (1, .int (iZ (((x : Nat) : Int)))), (2, .int (iZ (((y : Nat) : Int)))), (3, .int (iZ ((bI (co)))))] := hl
  exact pb_V.mono (by omega) (by omega) (L10 _ 0 p true H_ rfl hG (fun k hk => absurd hk (Nat.not_lt_zero _)) (fun h => Bool.noConfusion h) hp hC hFF (by omega) ls (lv_sub hl [2, 3, 4, 5, 1, 0] rfl))

