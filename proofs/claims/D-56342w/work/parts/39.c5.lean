set_option maxRecDepth 100000
theorem isF_t {E F : List Int} {i j : Nat} (h : isF E F i j = true) (hlt : i < E.length ∨ j < F.length) : i < E.length := by
  rcases of_decide_eq_true h with e | e <;> omega
theorem isF_f {E F : List Int} {i j : Nat} (h : isF E F i j = false) (hj : j ≤ F.length) : j < F.length := by
  have := of_decide_eq_false h
  omega
theorem cmS_s {k : Nat} {E F : List Int} {n i j : Nat} {x : Int} {L : List Int} (hc : cmS k E F n = (i, j, x, L)) {fb : Bool} (hfb : isF E F i j = fb) {y : Int} (hy : y = if fb = true then eE E i else eE F j) {L2 : List Int} (hL2 : L2 = if opk k (decide (i % 2 = 1)) (decide (j % 2 = 1)) = true then spadd L x y else L) : cmS k E F (n + 1) = (if fb = true then i + 1 else i, if fb = true then j else j + 1, y, L2) := by
  subst hfb; subst hy; subst hL2
  rw [cmS, hc]

set_option maxHeartbeats 1000000 in
theorem met_X4_combine {w : pb_W} (l : Launch) {H0 : Heap} (a b k : Nat) (hk : k < 4) (P P2 : Nat → Prop) (E F : List Int) (hS : Sp w H0 P a E) (hT : Sp w H0 P2 b F) (hL : ∀ n, n ≤ E.length + F.length → (cmS k E F n).2.2.2.length ≤ 64) : pb_M w l yX4_combine cX4_combine 9 (some (.object "PolygonBoard$Spans")) 3 (5) (122) [.ref (a), .ref (b), .ref ((w.2.2.1 (3 + k)))] H0 (pb_qr (fun b H1 => ∃ m, Sb w H1 H0.size b (cmS k E F (E.length + F.length)).2.2.2 m ∧ pb_F (fun q => q < H0.size) H0 H1)) := by
  refine pb_of (by decide +kernel) (Nat.le_of_ble_eq_true rfl) ?_
  intro p_ e_ s_ m_ ar_ bl_ me_ co_ ls C hh hG hl
  have hl : lv_has ls 9 [(0, .ref (a)), (1, .ref (b)), (2, .ref ((w.2.2.1 (3 + k))))] := hl
  have hzs := hG.1
  have hS := hS.below
  have hFF : pb_F (fun q => q < H0.size) H0 H0 := pb_F.rf
  obtain ⟨hrgE, hE64⟩ := hS.rg
  have hT := hT.below
  obtain ⟨hrgF, hF64⟩ := hT.rg
  have L17 : ∀ (n_ : Nat) (n i j m cb : Nat) (x : Int) (L : List Int) (H : Heap), E.length + F.length - n = n_ → (pb_G w s_ H) → (cmS k E F n = (i, j, x, L)) → (i ≤ E.length) → (j ≤ F.length) → (i + j = n) → (-1000 ≤ x ∧ x ≤ 1000) → (Sb w H H0.size cb L m) → (pb_F (fun q => q < H0.size) H0 H) → ∀ (ls : Array Slot), lv_has ls 9 [(0, .ref (a)), (1, .ref (b)), (2, .ref ((w.2.2.1 (3 + k)))), (3, .ref (cb)), (4, .int (iZ (((i : Nat) : Int)))), (5, .int (iZ (((j : Nat) : Int)))), (6, .int (iZ (x)))] → pb_V w.2.2.2 p_ l e_ (pb_rm 3 (5) (122)) s_ m_ ar_ bl_ me_ co_ H (potc m) (pot m) (pb_E w bl_ ar_ s_ (5) (122) (pb_qr (fun b H1 => ∃ m, Sb w H1 H0.size b (cmS k E F (E.length + F.length)).2.2.2 m ∧ pb_F (fun q => q < H0.size) H0 H1))) (F0 m_ 17 ls []) := by
    intro n_
    induction n_ using Nat.strongRecOn with
    | _ n_ ih17 =>
    intro n i j m cb x L H hm_ hG hc hi hj hn hx hSb hFF ls hl
    have hS := hS.kept hFF
    have hT := hT.kept hFF
    have hS_ := hS
    obtain ⟨e, mE, f, hPa, hPe, hO, hA, hag, hle, hrg, hm⟩ := hS_
    have hT_ := hT
    obtain ⟨e2, mE2, f2, hPa2, hPe2, hO2, hA2, hag2, hle2, hrg2, hm2⟩ := hT_
    have L35 : (i < E.length ∨ j < F.length) →  ∀ (ls : Array Slot), lv_has ls 9 [(0, .ref (a)), (1, .ref (b)), (2, .ref ((w.2.2.1 (3 + k)))), (3, .ref (cb)), (4, .int (iZ (((i : Nat) : Int)))), (5, .int (iZ (((j : Nat) : Int)))), (6, .int (iZ (x)))] → pb_V w.2.2.2 p_ l e_ (pb_rm 3 (5) (122)) s_ m_ ar_ bl_ me_ co_ H (potc m) (pot m) (pb_E w bl_ ar_ s_ (5) (122) (pb_qr (fun b H1 => ∃ m, Sb w H1 H0.size b (cmS k E F (E.length + F.length)).2.2.2 m ∧ pb_F (fun q => q < H0.size) H0 H1))) (F0 m_ 35 ls []) := by
      intro  hlt ls hl
      have L77 : ∀ (fb : Bool), (isF E F i j = fb) →  ∀ (ls : Array Slot), lv_has ls 9 [(0, .ref (a)), (1, .ref (b)), (2, .ref ((w.2.2.1 (3 + k)))), (3, .ref (cb)), (4, .int (iZ (((i : Nat) : Int)))), (5, .int (iZ (((j : Nat) : Int)))), (6, .int (iZ (x))), (7, .int (iZ ((bI (fb)))))] → pb_V w.2.2.2 p_ l e_ (pb_rm 3 (5) (122)) s_ m_ ar_ bl_ me_ co_ H (potc m) (pot m) (pb_E w bl_ ar_ s_ (5) (122) (pb_qr (fun b H1 => ∃ m, Sb w H1 H0.size b (cmS k E F (E.length + F.length)).2.2.2 m ∧ pb_F (fun q => q < H0.size) H0 H1))) (F0 m_ 77 ls []) := by
        intro fb hfb ls hl
        have L101 : ∀ (y : Int), (y = if fb = true then eE E i else eE F j) →  ∀ (ls : Array Slot), lv_has ls 9 [(0, .ref (a)), (1, .ref (b)), (2, .ref ((w.2.2.1 (3 + k)))), (3, .ref (cb)), (4, .int (iZ (((i : Nat) : Int)))), (5, .int (iZ (((j : Nat) : Int)))), (6, .int (iZ (x))), (7, .int (iZ ((bI (fb))))), (8, .int (iZ (y)))] → pb_V w.2.2.2 p_ l e_ (pb_rm 3 (5) (122)) s_ m_ ar_ bl_ me_ co_ H (potc m) (pot m) (pb_E w bl_ ar_ s_ (5) (122) (pb_qr (fun b H1 => ∃ m, Sb w H1 H0.size b (cmS k E F (E.length + F.length)).2.2.2 m ∧ pb_F (fun q => q < H0.size) H0 H1))) (F0 m_ 101 ls []) := by
          intro y hy ls hl
          have hyr : -1000 ≤ y ∧ y ≤ 1000 := by rw [hy]; split <;> first | exact eE_rg hrg | exact eE_rg hrg2
          have L128 : ∀ (p q : Bool), (decide (i % 2 = 1) = p) → (decide (j % 2 = 1) = q) →  ∀ (ls : Array Slot), lv_has ls 9 [(0, .ref (a)), (1, .ref (b)), (2, .ref ((w.2.2.1 (3 + k)))), (3, .ref (cb)), (4, .int (iZ (((i : Nat) : Int)))), (5, .int (iZ (((j : Nat) : Int)))), (6, .int (iZ (x))), (7, .int (iZ ((bI (fb))))), (8, .int (iZ (y)))] → pb_V w.2.2.2 p_ l e_ (pb_rm 3 (5) (122)) s_ m_ ar_ bl_ me_ co_ H (potc m) (pot m) (pb_E w bl_ ar_ s_ (5) (122) (pb_qr (fun b H1 => ∃ m, Sb w H1 H0.size b (cmS k E F (E.length + F.length)).2.2.2 m ∧ pb_F (fun q => q < H0.size) H0 H1))) (F0 m_ 128 ls [.int (iZ ((bI (q)))), .int (iZ ((bI (p)))), .ref ((w.2.2.1 (3 + k)))]) := by
            intro p q hp hq ls hl
            have L142 : ∀ (m2 : Nat) (L2 : List Int) (H : Heap), (pb_G w s_ H) → (Sb w H H0.size cb L2 m2) → (L2 = if opk k (decide (i % 2 = 1)) (decide (j % 2 = 1)) = true then spadd L x y else L) → (pb_F (fun q => q < H0.size) H0 H) →  ∀ (ls : Array Slot), lv_has ls 9 [(0, .ref (a)), (1, .ref (b)), (2, .ref ((w.2.2.1 (3 + k)))), (3, .ref (cb)), (4, .int (iZ (((i : Nat) : Int)))), (5, .int (iZ (((j : Nat) : Int)))), (6, .int (iZ (x))), (7, .int (iZ ((bI (fb))))), (8, .int (iZ (y)))] → pb_V w.2.2.2 p_ l e_ (pb_rm 3 (5) (122)) s_ m_ ar_ bl_ me_ co_ H (potc m2) (pot m2) (pb_E w bl_ ar_ s_ (5) (122) (pb_qr (fun b H1 => ∃ m, Sb w H1 H0.size b (cmS k E F (E.length + F.length)).2.2.2 m ∧ pb_F (fun q => q < H0.size) H0 H1))) (F0 m_ 142 ls []) := by
              intro m2 L2 H hG hSb2 hL2 hFF2 ls hl
              refine pb_iload C dX4_combine_142 (lv_at hl 4 rfl) ?_
              refine pb_iload C dX4_combine_144 (lv_at hl 7 rfl) ?_
              refine pb_ifB_eq C dX4_combine_146 (tgt := 153) (by decide) (fun c146_ => ?_) (fun c146_ => ?_)
              · have hlt1 := isF_f (hfb.trans c146_) hj
                refine pb_ic C dX4_combine_153 ?_
                refine pb_iadd C dX4_combine_154 ?_
                refine pb_istore C dX4_combine_155 hl (by decide) rfl fun ls hl => ?_
                have hl : lv_has ls 9 [(4, .int (iZ ((((i + 0) : Nat) : Int)))), (0, .ref (a)), (1, .ref (b)), (2, .ref ((w.2.2.1 (3 + k)))), (3, .ref (cb)), (5, .int (iZ (((j : Nat) : Int)))), (6, .int (iZ (x))), (7, .int (iZ ((bI (fb))))), (8, .int (iZ (y)))] := hl
                refine pb_iload C dX4_combine_157 (lv_at hl 5 rfl) ?_
                refine pb_iload C dX4_combine_159 (lv_at hl 7 rfl) ?_
                refine pb_ifB_eq C dX4_combine_161 (tgt := 168) (by decide) (fun c161_ => ?_) (fun c161_ => ?_)
                · refine pb_ic C dX4_combine_168 ?_
                  refine pb_iadd C dX4_combine_169 ?_
                  refine pb_istore C dX4_combine_170 hl (by decide) rfl fun ls hl => ?_
                  have hl : lv_has ls 9 [(5, .int (iZ ((((j + 1) : Nat) : Int)))), (4, .int (iZ ((((i + 0) : Nat) : Int)))), (0, .ref (a)), (1, .ref (b)), (2, .ref ((w.2.2.1 (3 + k)))), (3, .ref (cb)), (6, .int (iZ (x))), (7, .int (iZ ((bI (fb))))), (8, .int (iZ (y)))] := hl
                  refine pb_iload C dX4_combine_172 (lv_at hl 8 rfl) ?_
                  refine pb_istore C dX4_combine_174 hl (by decide) rfl fun ls hl => ?_
                  have hl : lv_has ls 9 [(6, .int (iZ (y))), (5, .int (iZ ((((j + 1) : Nat) : Int)))), (4, .int (iZ ((((i + 0) : Nat) : Int)))), (0, .ref (a)), (1, .ref (b)), (2, .ref ((w.2.2.1 (3 + k)))), (3, .ref (cb)), (7, .int (iZ ((bI (fb))))), (8, .int (iZ (y)))] := hl
                  refine pb_goto C dX4_combine_176 (tgt := 17) (by decide) ?_
                  exact pb_V.mono (by omega) (by omega) (ih17 _ (by omega) (n + 1) (i + 0) (j + 1) m2 cb y L2 H rfl hG (by rw [cmS_s hc hfb hy hL2, if_neg (by rw [c146_]; exact Bool.false_ne_true), if_neg (by rw [c146_]; exact Bool.false_ne_true)]; rfl) (by omega) (by omega) (by omega) (by omega) hSb2 hFF2 ls (lv_sub hl [3, 4, 5, 6, 2, 1, 0] rfl))
                · exact absurd (c146_.symm.trans c161_) (by decide)
              · have hlt1 := isF_t (hfb.trans c146_) hlt
                refine pb_ic C dX4_combine_149 ?_
                refine pb_goto C dX4_combine_150 (tgt := 154) (by decide) ?_
                refine pb_iadd C dX4_combine_154 ?_
                refine pb_istore C dX4_combine_155 hl (by decide) rfl fun ls hl => ?_
                have hl : lv_has ls 9 [(4, .int (iZ ((((i + 1) : Nat) : Int)))), (0, .ref (a)), (1, .ref (b)), (2, .ref ((w.2.2.1 (3 + k)))), (3, .ref (cb)), (5, .int (iZ (((j : Nat) : Int)))), (6, .int (iZ (x))), (7, .int (iZ ((bI (fb))))), (8, .int (iZ (y)))] := hl
                refine pb_iload C dX4_combine_157 (lv_at hl 5 rfl) ?_
                refine pb_iload C dX4_combine_159 (lv_at hl 7 rfl) ?_
                refine pb_ifB_eq C dX4_combine_161 (tgt := 168) (by decide) (fun c161_ => ?_) (fun c161_ => ?_)
                · exact absurd (c146_.symm.trans c161_) (by decide)
                · refine pb_ic C dX4_combine_164 ?_
                  refine pb_goto C dX4_combine_165 (tgt := 169) (by decide) ?_
                  refine pb_iadd C dX4_combine_169 ?_
                  refine pb_istore C dX4_combine_170 hl (by decide) rfl fun ls hl => ?_
                  have hl : lv_has ls 9 [(5, .int (iZ ((((j + 0) : Nat) : Int)))), (4, .int (iZ ((((i + 1) : Nat) : Int)))), (0, .ref (a)), (1, .ref (b)), (2, .ref ((w.2.2.1 (3 + k)))), (3, .ref (cb)), (6, .int (iZ (x))), (7, .int (iZ ((bI (fb))))), (8, .int (iZ (y)))] := hl
                  refine pb_iload C dX4_combine_172 (lv_at hl 8 rfl) ?_
                  refine pb_istore C dX4_combine_174 hl (by decide) rfl fun ls hl => ?_
                  have hl : lv_has ls 9 [(6, .int (iZ (y))), (5, .int (iZ ((((j + 0) : Nat) : Int)))), (4, .int (iZ ((((i + 1) : Nat) : Int)))), (0, .ref (a)), (1, .ref (b)), (2, .ref ((w.2.2.1 (3 + k)))), (3, .ref (cb)), (7, .int (iZ ((bI (fb))))), (8, .int (iZ (y)))] := hl
                  refine pb_goto C dX4_combine_176 (tgt := 17) (by decide) ?_
                  exact pb_V.mono (by omega) (by omega) (ih17 _ (by omega) (n + 1) (i + 1) (j + 0) m2 cb y L2 H rfl hG (by rw [cmS_s hc hfb hy hL2, if_pos c146_, if_pos c146_]; rfl) (by omega) (by omega) (by omega) (by omega) hSb2 hFF2 ls (lv_sub hl [3, 4, 5, 6, 2, 1, 0] rfl))
            refine pb_go_x (bc' := potc m) (bs' := pot m) (pb_keeps (rest := []) C hG hk p q q700 hl.1 (Nat.le_of_ble_eq_true rfl) ⟨(Nat.le_of_ble_eq_true rfl), (Nat.le_of_ble_eq_true rfl)⟩ dX4_combine_128) (by omega) (by omega) ?_
            refine pb_ifB_eq C dX4_combine_131 (tgt := 142) (by decide) (fun c131_ => ?_) (fun c131_ => ?_)
            · exact pb_V.mono (by omega) (by omega) (L142 m L H hG hSb (by rw [hp, hq, if_neg (by rw [c131_]; exact Bool.false_ne_true)]) hFF ls (lv_sub hl [0, 1, 2, 3, 4, 5, 6, 7, 8] rfl))
            · have hL1 : (spadd L x y).length ≤ 64 := by have h := hL (n + 1) (by omega); rw [cmS_s hc hfb hy rfl, hp, hq, if_pos c131_] at h; exact h
              obtain ⟨fs_, hR_⟩ := hSb.o
              have hpot := sp_pot (E := L) (l := x) (r := y) hSb.m8 hL1
              refine pb_aload_n C dX4_combine_134 rfl (lv_at hl 3 rfl) ?_
              refine pb_iload C dX4_combine_135 (lv_at hl 6 rfl) ?_
              refine pb_iload C dX4_combine_137 (lv_at hl 8 rfl) ?_
              refine pb_go_v (bc' := potc m - ((spc L x y m))) (bs' := pot m - ((sps L x y m))) (pb_runV (rest := []) C hG (met_X4_add l H0.size cb m L (by omega) hSb x y (by omega) (by omega) hL1) hR_ (ci := 3) rfl (lw_V q715 q419 q420 q70 q421) ⟨rfl, hdX4_add⟩ rfl hl.1 rfl (Nat.le_of_ble_eq_true rfl) ⟨(Nat.le_of_ble_eq_true rfl), (Nat.le_of_ble_eq_true rfl)⟩ dX4_combine_139) (by omega) (by omega) (fun H_ hp_ => ?_)
              obtain ⟨hSb, hF1⟩ := hp_
              have hG := hG.kept (hF1.mono (fun q _ (hq : q < w.2.2.2) => show q < _ from by omega))
              have hFF := hFF.tr hF1
              exact pb_V.mono (by omega) (by omega) (L142 (spm L x y m) (spadd L x y) H_ hG hSb (by rw [hp, hq, if_pos c131_]) hFF ls (lv_sub hl [0, 1, 2, 3, 4, 5, 6, 7, 8] rfl))
          refine pb_aload_n C dX4_combine_101 rfl (lv_at hl 2 rfl) ?_
          refine pb_iload C dX4_combine_102 (lv_at hl 4 rfl) ?_
          refine pb_ic C dX4_combine_104 ?_
          refine pb_irem C dX4_combine_105 (x := ((i : Nat) : Int)) (y := 2) (by omega) (by omega) (by omega) ?_
          refine pb_ic C dX4_combine_106 ?_
          refine pb_icmp_ne C dX4_combine_107 (x := (((i % 2) : Nat) : Int)) (y := 1) (tgt := 114) (by decide) (by omega) (by omega) (fun c107_ => ?_) (fun c107_ => ?_)
          · refine pb_ic C dX4_combine_114 ?_
            refine pb_iload C dX4_combine_115 (lv_at hl 5 rfl) ?_
            refine pb_ic C dX4_combine_117 ?_
            refine pb_irem C dX4_combine_118 (x := ((j : Nat) : Int)) (y := 2) (by omega) (by omega) (by omega) ?_
            refine pb_ic C dX4_combine_119 ?_
            refine pb_icmp_ne C dX4_combine_120 (x := (((j % 2) : Nat) : Int)) (y := 1) (tgt := 127) (by decide) (by omega) (by omega) (fun c120_ => ?_) (fun c120_ => ?_)
            · refine pb_ic C dX4_combine_127 ?_
              exact pb_V.mono (by omega) (by omega) (L128 false false (decide_eq_false (by omega)) (decide_eq_false (by omega)) ls (lv_sub hl [0, 1, 2, 3, 4, 5, 6, 7, 8] rfl))
            · refine pb_ic C dX4_combine_123 ?_
              refine pb_goto C dX4_combine_124 (tgt := 128) (by decide) ?_
              exact pb_V.mono (by omega) (by omega) (L128 false true (decide_eq_false (by omega)) (decide_eq_true (by omega)) ls (lv_sub hl [0, 1, 2, 3, 4, 5, 6, 7, 8] rfl))
          · refine pb_ic C dX4_combine_110 ?_
            refine pb_goto C dX4_combine_111 (tgt := 115) (by decide) ?_
            refine pb_iload C dX4_combine_115 (lv_at hl 5 rfl) ?_
            refine pb_ic C dX4_combine_117 ?_
            refine pb_irem C dX4_combine_118 (x := ((j : Nat) : Int)) (y := 2) (by omega) (by omega) (by omega) ?_
            refine pb_ic C dX4_combine_119 ?_
            refine pb_icmp_ne C dX4_combine_120 (x := (((j % 2) : Nat) : Int)) (y := 1) (tgt := 127) (by decide) (by omega) (by omega) (fun c120_ => ?_) (fun c120_ => ?_)
            · refine pb_ic C dX4_combine_127 ?_
              exact pb_V.mono (by omega) (by omega) (L128 true false (decide_eq_true (by omega)) (decide_eq_false (by omega)) ls (lv_sub hl [0, 1, 2, 3, 4, 5, 6, 7, 8] rfl))
            · refine pb_ic C dX4_combine_123 ?_
              refine pb_goto C dX4_combine_124 (tgt := 128) (by decide) ?_
              exact pb_V.mono (by omega) (by omega) (L128 true true (decide_eq_true (by omega)) (decide_eq_true (by omega)) ls (lv_sub hl [0, 1, 2, 3, 4, 5, 6, 7, 8] rfl))
        refine pb_iload C dX4_combine_77 (lv_at hl 7 rfl) ?_
        refine pb_ifB_eq C dX4_combine_79 (tgt := 92) (by decide) (fun c79_ => ?_) (fun c79_ => ?_)
        · have hlt1 := isF_f (hfb.trans c79_) hj
          refine pb_aload_n C dX4_combine_92 rfl (lv_at hl 1 rfl) ?_
          refine pb_get C in_X4 hO2 (ci := 3) rfl 0 (by decide) q410 (fun _ h9 => h9) (v := .ref (e2)) rfl dX4_combine_93 ?_
          refine pb_iload C dX4_combine_96 (lv_at hl 5 rfl) ?_
          refine pb_iald C hA2 (i := ((j : Nat) : Int)) (v := .int (iZ ((eE F j)))) (by omega) (congrArg (fun z : Int => Value.int (iZ z)) (show f2 j = eE F j from eE_at hag2 (by omega))) dX4_combine_98 ?_
          refine pb_istore C dX4_combine_99 hl (by decide) rfl fun ls hl => ?_
          have hl : lv_has ls 9 [(8, .int (iZ ((eE F j)))), (0, .ref (a)), (1, .ref (b)), (2, .ref ((w.2.2.1 (3 + k)))), (3, .ref (cb)), (4, .int (iZ (((i : Nat) : Int)))), (5, .int (iZ (((j : Nat) : Int)))), (6, .int (iZ (x))), (7, .int (iZ ((bI (fb)))))] := hl
          exact pb_V.mono (by omega) (by omega) (L101 (eE F j) (by rw [c79_]; rfl) ls (lv_sub hl [1, 2, 3, 4, 5, 6, 7, 8, 0] rfl))
        · have hlt1 := isF_t (hfb.trans c79_) hlt
          refine pb_aload_n C dX4_combine_82 rfl (lv_at hl 0 rfl) ?_
          refine pb_get C in_X4 hO (ci := 3) rfl 0 (by decide) q410 (fun _ h9 => h9) (v := .ref (e)) rfl dX4_combine_83 ?_
          refine pb_iload C dX4_combine_86 (lv_at hl 4 rfl) ?_
          refine pb_iald C hA (i := ((i : Nat) : Int)) (v := .int (iZ ((eE E i)))) (by omega) (congrArg (fun z : Int => Value.int (iZ z)) (show f i = eE E i from eE_at hag (by omega))) dX4_combine_88 ?_
          refine pb_goto C dX4_combine_89 (tgt := 99) (by decide) ?_
          refine pb_istore C dX4_combine_99 hl (by decide) rfl fun ls hl => ?_
          have hl : lv_has ls 9 [(8, .int (iZ ((eE E i)))), (0, .ref (a)), (1, .ref (b)), (2, .ref ((w.2.2.1 (3 + k)))), (3, .ref (cb)), (4, .int (iZ (((i : Nat) : Int)))), (5, .int (iZ (((j : Nat) : Int)))), (6, .int (iZ (x))), (7, .int (iZ ((bI (fb)))))] := hl
          exact pb_V.mono (by omega) (by omega) (L101 (eE E i) (by rw [c79_]; rfl) ls (lv_sub hl [1, 2, 3, 4, 5, 6, 7, 8, 0] rfl))
      refine pb_iload C dX4_combine_35 (lv_at hl 5 rfl) ?_
      refine pb_aload_n C dX4_combine_37 rfl (lv_at hl 1 rfl) ?_
      refine pb_get C in_X4 hO2 (ci := 3) rfl 1 (by decide) q411 (fun _ h9 => h9) (v := .int (iZ (((F.length : Nat) : Int)))) rfl dX4_combine_38 ?_
      refine pb_icmp_eq C dX4_combine_41 (x := ((j : Nat) : Int)) (y := ((F.length : Nat) : Int)) (tgt := 70) (by decide) (by omega) (by omega) (fun c41_ => ?_) (fun c41_ => ?_)
      · refine pb_ic C dX4_combine_70 ?_
        refine pb_goto C dX4_combine_71 (tgt := 75) (by decide) ?_
        refine pb_istore C dX4_combine_75 hl (by decide) rfl fun ls hl => ?_
        have hl : lv_has ls 9 [(7, .int (iZ (1))), (0, .ref (a)), (1, .ref (b)), (2, .ref ((w.2.2.1 (3 + k)))), (3, .ref (cb)), (4, .int (iZ (((i : Nat) : Int)))), (5, .int (iZ (((j : Nat) : Int)))), (6, .int (iZ (x)))] := hl
        exact pb_V.mono (by omega) (by omega) (L77 true (decide_eq_true (by omega)) ls (lv_sub hl [1, 2, 3, 4, 5, 6, 7, 0] rfl))
      · refine pb_iload C dX4_combine_44 (lv_at hl 4 rfl) ?_
        refine pb_aload_n C dX4_combine_46 rfl (lv_at hl 0 rfl) ?_
        refine pb_get C in_X4 hO (ci := 3) rfl 1 (by decide) q411 (fun _ h9 => h9) (v := .int (iZ (((E.length : Nat) : Int)))) rfl dX4_combine_47 ?_
        refine pb_icmp_ge C dX4_combine_50 (x := ((i : Nat) : Int)) (y := ((E.length : Nat) : Int)) (tgt := 74) (by decide) (by omega) (by omega) (fun c50_ => ?_) (fun c50_ => ?_)
        · refine pb_ic C dX4_combine_74 ?_
          refine pb_istore C dX4_combine_75 hl (by decide) rfl fun ls hl => ?_
          have hl : lv_has ls 9 [(7, .int (iZ (0))), (0, .ref (a)), (1, .ref (b)), (2, .ref ((w.2.2.1 (3 + k)))), (3, .ref (cb)), (4, .int (iZ (((i : Nat) : Int)))), (5, .int (iZ (((j : Nat) : Int)))), (6, .int (iZ (x)))] := hl
          exact pb_V.mono (by omega) (by omega) (L77 false (decide_eq_false (by omega)) ls (lv_sub hl [1, 2, 3, 4, 5, 6, 7, 0] rfl))
        · have hre := eE_rg hrg (i := i)
          have hrf := eE_rg hrg2 (i := j)
          refine pb_aload_n C dX4_combine_53 rfl (lv_at hl 0 rfl) ?_
          refine pb_get C in_X4 hO (ci := 3) rfl 0 (by decide) q410 (fun _ h9 => h9) (v := .ref (e)) rfl dX4_combine_54 ?_
          refine pb_iload C dX4_combine_57 (lv_at hl 4 rfl) ?_
          refine pb_iald C hA (i := ((i : Nat) : Int)) (v := .int (iZ ((eE E i)))) (by omega) (congrArg (fun z : Int => Value.int (iZ z)) (show f i = eE E i from eE_at hag (by omega))) dX4_combine_59 ?_
          refine pb_aload_n C dX4_combine_60 rfl (lv_at hl 1 rfl) ?_
          refine pb_get C in_X4 hO2 (ci := 3) rfl 0 (by decide) q410 (fun _ h9 => h9) (v := .ref (e2)) rfl dX4_combine_61 ?_
          refine pb_iload C dX4_combine_64 (lv_at hl 5 rfl) ?_
          refine pb_iald C hA2 (i := ((j : Nat) : Int)) (v := .int (iZ ((eE F j)))) (by omega) (congrArg (fun z : Int => Value.int (iZ z)) (show f2 j = eE F j from eE_at hag2 (by omega))) dX4_combine_66 ?_
          refine pb_icmp_gt C dX4_combine_67 (x := (eE E i)) (y := (eE F j)) (tgt := 74) (by decide) (by omega) (by omega) (fun c67_ => ?_) (fun c67_ => ?_)
          · refine pb_ic C dX4_combine_74 ?_
            refine pb_istore C dX4_combine_75 hl (by decide) rfl fun ls hl => ?_
            have hl : lv_has ls 9 [(7, .int (iZ (0))), (0, .ref (a)), (1, .ref (b)), (2, .ref ((w.2.2.1 (3 + k)))), (3, .ref (cb)), (4, .int (iZ (((i : Nat) : Int)))), (5, .int (iZ (((j : Nat) : Int)))), (6, .int (iZ (x)))] := hl
            exact pb_V.mono (by omega) (by omega) (L77 false (decide_eq_false (by omega)) ls (lv_sub hl [1, 2, 3, 4, 5, 6, 7, 0] rfl))
          · refine pb_ic C dX4_combine_70 ?_
            refine pb_goto C dX4_combine_71 (tgt := 75) (by decide) ?_
            refine pb_istore C dX4_combine_75 hl (by decide) rfl fun ls hl => ?_
            have hl : lv_has ls 9 [(7, .int (iZ (1))), (0, .ref (a)), (1, .ref (b)), (2, .ref ((w.2.2.1 (3 + k)))), (3, .ref (cb)), (4, .int (iZ (((i : Nat) : Int)))), (5, .int (iZ (((j : Nat) : Int)))), (6, .int (iZ (x)))] := hl
            exact pb_V.mono (by omega) (by omega) (L77 true (decide_eq_true (by omega)) ls (lv_sub hl [1, 2, 3, 4, 5, 6, 7, 0] rfl))
    refine pb_iload C dX4_combine_17 (lv_at hl 4 rfl) ?_
    refine pb_aload_n C dX4_combine_19 rfl (lv_at hl 0 rfl) ?_
    refine pb_get C in_X4 hO (ci := 3) rfl 1 (by decide) q411 (fun _ h9 => h9) (v := .int (iZ (((E.length : Nat) : Int)))) rfl dX4_combine_20 ?_
    refine pb_icmp_lt C dX4_combine_23 (x := ((i : Nat) : Int)) (y := ((E.length : Nat) : Int)) (tgt := 35) (by decide) (by omega) (by omega) (fun c23_ => ?_) (fun c23_ => ?_)
    · exact pb_V.mono (by omega) (by omega) (L35  (by omega) ls (lv_sub hl [0, 1, 2, 3, 4, 5, 6] rfl))
    · refine pb_iload C dX4_combine_26 (lv_at hl 5 rfl) ?_
      refine pb_aload_n C dX4_combine_28 rfl (lv_at hl 1 rfl) ?_
      refine pb_get C in_X4 hO2 (ci := 3) rfl 1 (by decide) q411 (fun _ h9 => h9) (v := .int (iZ (((F.length : Nat) : Int)))) rfl dX4_combine_29 ?_
      refine pb_icmp_ge C dX4_combine_32 (x := ((j : Nat) : Int)) (y := ((F.length : Nat) : Int)) (tgt := 179) (by decide) (by omega) (by omega) (fun c32_ => ?_) (fun c32_ => ?_)
      · refine pb_aload_n C dX4_combine_179 rfl (lv_at hl 3 rfl) ?_
        exact pb_aret C (Or.inl ⟨_, rfl⟩) dX4_combine_180 (Or.inr ⟨_, rfl⟩) (⟨_, rfl, m, by rw [show E.length + F.length = n from by omega, hc]; exact hSb, hFF⟩)
      · exact pb_V.mono (by omega) (by omega) (L35  (by omega) ls (lv_sub hl [0, 1, 2, 3, 4, 5, 6] rfl))
  refine pb_newE C in_X4 tyX4 tyX4_ok (ci := 3) rfl q698 q405 q70 (fs := [.null, .int (iZ (0))]) (by decide) (bc' := 4) (bs' := 120) (by omega) (by omega) dX4_combine_0 fun a1_ H1_ ha_ hn_ hN1_ => ?_
  have hs1_ : H1_.size = H0.size + 1 := hn_.1
  have hG := hG.kept (hn_.f.mono (fun _ _ _ => trivial))
  have hFF := hFF.tr (hn_.f.mono (fun _ _ _ => trivial))
  have a1__e : a1_ = H0.size := ha_
  refine pb_dup C dX4_combine_3 rfl ?_
  refine pb_go_v (bc' := 3) (bs' := 112) (pb_runI (rest := [.ref (a1_)]) C hG (met_X4_init l H0.size a1_ (by omega) (by omega) hN1_) q699 q407 q70 q408 rfl hdX4_init rfl hl.1 rfl (Nat.le_of_ble_eq_true rfl) ⟨(Nat.le_of_ble_eq_true rfl), (Nat.le_of_ble_eq_true rfl)⟩ dX4_combine_4) (by omega) (by omega) (fun H_ hp_ => ?_)
  obtain ⟨hSb, hF1⟩ := hp_
  have hG := hG.kept (hF1.mono (fun q _ (hq : q < w.2.2.2) => show q ≠ _ from by omega))
  have hFF := hFF.tr (hF1.mono (fun q _ (hq : q < H0.size) => show q ≠ _ from by omega))
  refine pb_astore_n C dX4_combine_7 rfl hl (by decide) rfl fun ls hl => ?_
  have hl : lv_has ls 9 [(3, .ref (a1_)), (0, .ref (a)), (1, .ref (b)), (2, .ref ((w.2.2.1 (3 + k))))] := hl
  refine pb_ic C dX4_combine_8 ?_
  refine pb_istore C dX4_combine_9 hl (by decide) rfl fun ls hl => ?_
  have hl : lv_has ls 9 [(4, .int (iZ (0))), (3, .ref (a1_)), (0, .ref (a)), (1, .ref (b)), (2, .ref ((w.2.2.1 (3 + k))))] := hl
  refine pb_ic C dX4_combine_11 ?_
  refine pb_istore C dX4_combine_12 hl (by decide) rfl fun ls hl => ?_
  have hl : lv_has ls 9 [(5, .int (iZ (0))), (4, .int (iZ (0))), (3, .ref (a1_)), (0, .ref (a)), (1, .ref (b)), (2, .ref ((w.2.2.1 (3 + k))))] := hl
  have hp8 : potc 8 = 3 ∧ pot 8 = 112 := ⟨rfl, rfl⟩
  refine pb_ic C dX4_combine_14 ?_
  refine pb_istore C dX4_combine_15 hl (by decide) rfl fun ls hl => ?_
  have hl : lv_has ls 9 [(6, .int (iZ (0))), (5, .int (iZ (0))), (4, .int (iZ (0))), (3, .ref (a1_)), (0, .ref (a)), (1, .ref (b)), (2, .ref ((w.2.2.1 (3 + k))))] := hl
  exact pb_V.mono (by omega) (by omega) (L17 _ 0 0 0 8 a1_ 0 ([]) H_ rfl hG rfl (by omega) (by omega) (by omega) (by omega) hSb hFF ls (lv_sub hl [4, 5, 6, 3, 2, 1, 0] rfl))

