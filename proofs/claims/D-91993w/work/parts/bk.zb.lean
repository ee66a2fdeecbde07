set_option maxRecDepth 100000
/-! the start: what the Statement gives of it -/
section XSTART
def xfl : List Cond := flatC (Jvm.Cond.and given_1 narrow_1)
theorem xin {fl ws : List Cond} (ps : List Nat) (h : ws = ps.filterMap (fun i => fl[i]?)) : ∀ w ∈ ws, w ∈ fl := by
  intro w hw
  rw [h] at hw
  obtain ⟨i, _, hi⟩ := List.mem_filterMap.mp hw
  exact List.mem_of_getElem? hi
def xri : List Nat := [245, 149, 179, 35, 175, 33, 57, 55, 37, 21, 163, 250, 234, 268, 259, 59, 44, 51, 223, 13, 42, 263, 225, 221, 159, 46, 23, 31, 11, 53, 19, 211, 15, 17, 229]
def xtm (i : Nat) : Term := .string "CardBowl$Reader" (xri.getD i 0)
def xval (i : Nat) : Term := .field (xtm i) "java/lang/String" "value" "[B"
def xmod : List (Nat × Nat) := [(197, 27), (199, 5), (201, 3), (203, 8), (266, 11), (268, 14), (270, 21), (272, 13), (255, 22), (257, 34), (259, 12), (224, 17), (226, 29), (228, 7), (230, 6), (232, 15), (237, 23), (239, 18), (241, 31), (246, 20), (248, 16), (250, 25), (264, 0), (205, 1), (210, 24), (212, 10), (183, 28), (185, 19), (187, 32), (189, 33), (191, 30), (193, 9), (195, 26), (220, 4), (222, 2)]
theorem x_ex : ∀ w ∈ (List.range 35).map (fun i => Cond.exactly (xtm i) "java/lang/String"), w ∈ xfl := xin [811, 818, 848, 667, 840, 659, 736, 727, 675, 637, 832, 752, 779, 872, 857, 743, 693, 709, 802, 609, 685, 865, 761, 794, 824, 701, 644, 651, 602, 717, 630, 785, 616, 623, 769] (by decide +kernel)
theorem x_co : ∀ w ∈ (List.range 35).map (fun i => Cond.eq (.field (xtm i) "java/lang/String" "coder" "B") (.int 0)), w ∈ xfl := xin [812, 819, 849, 668, 841, 660, 737, 728, 676, 638, 833, 753, 780, 873, 858, 744, 694, 710, 803, 610, 686, 866, 762, 795, 825, 702, 645, 652, 603, 718, 631, 786, 617, 624, 770] (by decide +kernel)
theorem x_ar : ∀ w ∈ (List.range 35).map (fun i => Cond.arrayOf (xval i) .byte), w ∈ xfl := xin [813, 820, 850, 669, 842, 661, 738, 729, 677, 639, 834, 754, 781, 874, 859, 745, 695, 711, 804, 611, 687, 867, 763, 796, 826, 703, 646, 653, 604, 719, 632, 787, 618, 625, 771] (by decide +kernel)
theorem x_le : ∀ w ∈ (List.range 35).map (fun i => Cond.eq (.length (xval i)) (.int (Int32.ofNat (zLen.getD i 0)))), w ∈ xfl := xin [814, 821, 851, 670, 843, 662, 739, 730, 678, 640, 835, 755, 782, 875, 860, 746, 696, 712, 805, 612, 688, 868, 764, 797, 827, 704, 647, 654, 605, 720, 633, 788, 619, 626, 772] (by decide +kernel)
theorem x_el : ∀ w ∈ (List.range 35).flatMap (fun i => (List.range (zLen.getD i 0)).map (fun j => Cond.eq (.elem (xval i) (.int (Int32.ofNat j))) (.int ((zByt.getD i []).getD j 0)))), w ∈ xfl := xin [815, 816, 817, 822, 823, 852, 853, 854, 855, 856, 671, 672, 673, 674, 844, 845, 846, 847, 663, 664, 665, 666, 740, 741, 742, 731, 732, 733, 734, 735, 679, 680, 681, 682, 683, 684, 641, 642, 643, 836, 837, 838, 839, 756, 757, 758, 759, 760, 783, 784, 876, 877, 878, 879, 880, 881, 882, 883, 884, 861, 862, 863, 864, 747, 748, 749, 750, 751, 697, 698, 699, 700, 713, 714, 715, 716, 806, 807, 808, 809, 810, 613, 614, 615, 689, 690, 691, 692, 869, 870, 871, 765, 766, 767, 768, 798, 799, 800, 801, 828, 829, 830, 831, 705, 706, 707, 708, 648, 649, 650, 655, 656, 657, 658, 606, 607, 608, 721, 722, 723, 724, 725, 726, 634, 635, 636, 789, 790, 791, 792, 793, 620, 621, 622, 627, 628, 629, 773, 774, 775, 776, 777, 778] (by decide +kernel)
theorem x_eq : ∀ w ∈ xmod.map (fun q => Cond.eq (xtm q.2) (.string "CardBowlModel" q.1)), w ∈ xfl := xin [893, 902, 911, 922, 932, 941, 949, 963, 972, 983, 990, 999, 1010, 1020, 1028, 1038, 1047, 1057, 1067, 1076, 1085, 1094, 1102, 1109, 1118, 1127, 1135, 1143, 1151, 1159, 1167, 1175, 1183, 1192, 1202] (by decide +kernel)
theorem x_nc : ∀ w ∈ zNcs.map (fun q => Cond.not (.castable q.1 q.2)), w ∈ xfl := xin [373, 411, 449, 335, 412, 450, 336, 374, 451, 337, 375, 413, 70, 123, 122] (by decide +kernel)
theorem x_ot : ∀ w ∈ [Cond.isRef (.static Bundle.tN "UNASSIGNED_STACK" Bundle.steD), Cond.isRef (.static Bundle.tN "SUPPRESSED_SENTINEL" Bundle.listD), Cond.eq (.static "java/lang/String" "COMPACT_STRINGS" "Z") (.int 1), Cond.isRef (.static "jdk/internal/util/Preconditions" "SIOOBE_FORMATTER" "Ljava/util/function/BiFunction;"), Cond.isRef (.mirror "[Ljava/lang/Object;")], w ∈ xfl := xin [4, 5, 10, 11, 601] (by decide +kernel)
theorem x_tb : [Cond.laysStatic Bundle.tN "UNASSIGNED_STACK" Bundle.steD, Cond.laysStatic Bundle.tN "SUPPRESSED_SENTINEL" Bundle.listD, Cond.laysStatic "java/lang/String" "COMPACT_STRINGS" "Z", Cond.laysStatic "jdk/internal/util/Preconditions" "SIOOBE_FORMATTER" "Ljava/util/function/BiFunction;", Cond.initialized Bundle.tN, Cond.initialized "java/lang/String", Cond.initialized "jdk/internal/util/Preconditions", Cond.declares ⟨"java/lang/Object", "getClass", "()Ljava/lang/Class;"⟩].all (fun w => lw_tbl.contains w) = true := by decide +kernel
theorem x_st : zStrs.all (fun q => lw_tbl.contains (Cond.stringRef q.1 q.2.1 q.2.2.1)) = true := by decide +kernel
theorem x_s2 : zStrs.all (fun q => decide (q.2.2.2 < 35) && ((q.1 == "CardBowl$Reader" && xri.getD q.2.2.2 0 == q.2.1) || (q.1 == "CardBowlModel" && xmod.contains (q.2.1, q.2.2.2)))) = true := by decide +kernel
theorem x_ov : zOver.all (fun C => lw_tbl.contains (Cond.arrayOver (.object C))) = true := by decide +kernel
theorem x_fc : zFaces.all (fun q => lw_tbl.contains (Cond.declares q.1) && (lw_tbl.contains (Cond.interfaceMethod q.1.cls q.1.cls q.1.name q.1.desc) && (lw_tbl.contains (Cond.publicMethod q.2) && (lw_tbl.contains (Cond.unhidden "java/util/ArrayList" q.1.name q.1.desc) && lw_tbl.contains (Cond.castable "java/util/ArrayList" q.1.cls))))) = true := by decide +kernel
theorem x_cl : ([FieldType.int, .long, .byte, .short, .boolean].all (fun t => lw_tbl.contains (Cond.arrayClass t))) = true := by decide +kernel
theorem x_tx : ∀ i, i < 35 → ∀ j, j < 35 → zLen.getD i 0 = zLen.getD j 0 → (∀ k, k < zLen.getD i 0 → (zByt.getD i []).getD k 0 = (zByt.getD j []).getD k 0) → i = j := by decide +kernel
theorem x_ln : ∀ i, i < 35 → zLen.getD i 0 < 1000 := by decide +kernel
variable {s : State} {args : Array Value}
theorem st_k {C : String} {T : u_T} {N n : Nat} (hts : ∀ w ∈ lw_all, w.before args s = true) (hin : ∀ w ∈ u_ws C T N, w ∈ lw_all) (hi : Cond.instantiable C n ∈ lw_all) : ∃ q : ClassId × (Nat → Nat), u_Kn s C T N q.1 q.2 := by
  obtain ⟨a, b, h⟩ := u_known hts hin (hts _ hi)
  exact ⟨(a, b), h⟩
theorem st_k0 {C : String} {n : Nat} (hts : ∀ w ∈ lw_all, w.before args s = true) (hi : Cond.instantiable C n ∈ lw_all) : ∃ q : ClassId × (Nat → Nat), u_Kn s C uT0 0 q.1 q.2 := st_k hts (fun w hw => absurd hw (by unfold u_ws; exact List.not_mem_nil)) hi
theorem st_all (hts : ∀ w ∈ lw_all, w.before args s = true) : ∀ (c : Nat) (e : vw_C), zcl[c]? = some e → ∃ q : ClassId × (Nat → Nat), u_Kn s e.1 e.2.1 e.2.2 q.1 q.2

  | 0, e, h => by cases h; exact st_k (C := RX0) (T := TX0) (N := 12) hts in_X0 q357
  | 1, e, h => by cases h; exact st_k (C := RX1) (T := TX1) (N := 4) hts in_X1 q365
  | 2, e, h => by cases h; exact st_k (C := RX2) (T := TX2) (N := 5) hts in_X2 q371
  | 3, e, h => by cases h; exact st_k (C := RX3) (T := TX3) (N := 6) hts in_X3 q430
  | 4, e, h => by cases h; exact st_k (C := RX4) (T := TX4) (N := 6) hts in_X4 q438
  | 5, e, h => by cases h; exact st_k0 (C := RX6) hts q536
  | 6, e, h => by cases h; exact st_k0 (C := RX6) hts q536
  | 7, e, h => by cases h; exact st_k0 (C := RX7) hts q546
  | 8, e, h => by cases h; exact st_k0 (C := RX8) hts q553
  | 9, e, h => by cases h; exact st_k0 (C := RX9) hts q560
  | 10, e, h => by cases h; exact st_k (C := RX10) (T := TX10) (N := 12) hts in_X10 q567
  | 11, e, h => by cases h; exact st_k (C := RX11) (T := TX11) (N := 1) hts in_X11 q316
  | 12, e, h => by cases h; exact st_k (C := RX12) (T := TX12) (N := 41) hts in_X12 q1683
  | 13, e, h => by cases h; exact st_k (C := RX13) (T := TX13) (N := 12) hts in_X13 q682
  | 14, e, h => by cases h; exact st_k (C := RX14) (T := TX14) (N := 8) hts in_X14 q843
  | 15, e, h => by cases h; exact st_k (C := RX15) (T := TX15) (N := 4) hts in_X15 q888
  | 16, e, h => by cases h; exact st_k0 (C := RX6) hts q536
  | 17, e, h => by cases h; exact st_k (C := RX17) (T := TX17) (N := 1) hts in_X17 q936
  | 18, e, h => by cases h; exact st_k (C := RX18) (T := TX18) (N := 1) hts in_X18 q949
  | 19, e, h => by cases h; exact st_k (C := RX19) (T := TX19) (N := 3) hts in_X19 q960
  | 20, e, h => by cases h; exact st_k (C := RX20) (T := TX20) (N := 3) hts in_X20 q978
  | 21, e, h => by cases h; exact st_k (C := RX21) (T := TX21) (N := 8) hts in_X21 q1074
  | 22, e, h => by cases h; exact st_k (C := RX22) (T := TX22) (N := 4) hts in_X22 q1236
  | 23, e, h => by cases h; exact st_k (C := RX23) (T := TX23) (N := 5) hts in_X23 q1355
  | 24, e, h => by cases h; exact st_k (C := RJ2) (T := TJ2) (N := 3) hts in_J2 q377
  | c + 25, e, h => absurd h (by intro h9; have := (List.getElem?_eq_some_iff.mp h9).1; have h8 : zcl.length = 25 := rfl; omega)
theorem st_D (hts : ∀ w ∈ lw_all, w.before args s = true) : ∃ D : va_G, ∀ (c : Nat) (e : vw_C), zcl[c]? = some e → u_Kn s e.1 e.2.1 e.2.2 (D.1 c) (D.2 c) := by
  have h0 : ∀ c : Nat, ∃ q : ClassId × (Nat → Nat), ∀ e : vw_C, zcl[c]? = some e → u_Kn s e.1 e.2.1 e.2.2 q.1 q.2 := by
    intro c
    cases hc : zcl[c]? with
    | none => exact ⟨(st_all hts 0 _ rfl).choose, fun e h => nomatch h⟩
    | some e0 =>
      obtain ⟨q, hq⟩ := st_all hts c e0 hc
      exact ⟨q, fun e h => by cases h; exact hq⟩
  obtain ⟨f, hf⟩ := Classical.axiomOfChoice h0
  exact ⟨(fun c => (f c).1, fun c => (f c).2), hf⟩
theorem st_mem {ws : List Cond} (h : ws.all (fun w => lw_tbl.contains w) = true) {w : Cond} (hw : w ∈ ws) : w ∈ lw_tbl := List.contains_iff_mem.mp (List.all_eq_true.mp h w hw)
theorem st_a1 (hts : ∀ w ∈ lw_tbl, w.before args s = true) {ty : FieldType} (h : Cond.arrayClass ty ∈ lw_tbl) : ∃ cA : ClassId, ArrOfT s cA ty ∧ s.vm.findClass ("[" ++ ty.toString) = some cA := by
  obtain ⟨cA, kA, comp, h1, h2, h3⟩ := Cond.arrayClass_spec (hts _ h)
  exact ⟨cA, fun n z => ⟨fun k h => (by cases h), kA, h2, comp, h3⟩, h1⟩
theorem st_a2 (hts : ∀ w ∈ lw_tbl, w.before args s = true) {C : String} (h : Cond.arrayOver (.object C) ∈ lw_tbl) : ∃ cA : ClassId, ArrOfT s cA (.object C) ∧ va_RA s cA (.object C) := by
  obtain ⟨comp, c, k, h1, -, h3, h4, h5⟩ := Cond.arrayOver_spec (hts _ h)
  exact ⟨c, fun n z => ⟨fun k h => (by cases h), k, h3, comp, h4⟩, k, comp, h3, h4, h1, h5⟩
theorem st_T (hts : ∀ w ∈ lw_tbl, w.before args s = true) : ∃ t : Nat → ClassId, ∀ (k : Nat) (q : ClassId × FieldType), (ztys t)[k]? = some q → ArrOfT s q.1 q.2 ∧ va_RA s q.1 q.2 := by
  have e1 : ∀ t ∈ [FieldType.int, .long, .byte, .short, .boolean], Cond.arrayClass t ∈ lw_tbl := fun t h => List.contains_iff_mem.mp (List.all_eq_true.mp x_cl t h)
  have e2 : ∀ C ∈ zOver, Cond.arrayOver (.object C) ∈ lw_tbl := fun C h => List.contains_iff_mem.mp (List.all_eq_true.mp x_ov C h)
  obtain ⟨c50, a50, b50⟩ := st_a1 hts (e1 .int (by simp))
  obtain ⟨c51, a51, b51⟩ := st_a1 hts (e1 .long (by simp))
  obtain ⟨c52, a52, b52⟩ := st_a1 hts (e1 .byte (by simp))
  obtain ⟨c53, a53, b53⟩ := st_a1 hts (e1 .short (by simp))
  obtain ⟨c54, a54, b54⟩ := st_a1 hts (e1 .boolean (by simp))
  obtain ⟨c60, a60, b60⟩ := st_a2 hts (e2 "CardBowl$Slot" (by simp [zOver]))
  obtain ⟨c61, a61, b61⟩ := st_a2 hts (e2 "CardBowl$State" (by simp [zOver]))
  obtain ⟨c62, a62, b62⟩ := st_a2 hts (e2 "CardBowl$Paying" (by simp [zOver]))
  obtain ⟨c63, a63, b63⟩ := st_a2 hts (e2 "java/lang/String" (by simp [zOver]))
  obtain ⟨c64, a64, b64⟩ := st_a2 hts (e2 "java/lang/Object" (by simp [zOver]))
  refine ⟨fun n => [c50, c51, c52, c53, c54, c50, c50, c50, c50, c50, c60, c61, c62, c63, c64].getD (n - 50) c50, ?_⟩
  intro k q hq
  match k, hq with
  | 0, hq => cases hq; exact ⟨a50, b50⟩
  | 1, hq => cases hq; exact ⟨a51, b51⟩
  | 2, hq => cases hq; exact ⟨a52, b52⟩
  | 3, hq => cases hq; exact ⟨a53, b53⟩
  | 4, hq => cases hq; exact ⟨a54, b54⟩
  | 5, hq => cases hq; exact ⟨a60, b60⟩
  | 6, hq => cases hq; exact ⟨a61, b61⟩
  | 7, hq => cases hq; exact ⟨a62, b62⟩
  | 8, hq => cases hq; exact ⟨a63, b63⟩
  | 9, hq => cases hq; exact ⟨a64, b64⟩
  | k + 10, hq => cases hq
theorem st_S (hfl : ∀ w ∈ xfl, w.before args s = true) {A : Nat → Prop} (hA : ∀ a : Nat, a < s.heap.size → ¬ A a) : ∃ adK adV : Nat → Nat, vk_S 35 zLen zByt adK adV A s s.heap ∧ ∀ i : Nat, i < 35 → (xtm i).eval args s none [] s = some (.ref (adK i)) := by
  have h0 : ∀ i : Nat, ∃ q : Nat × Nat, i < 35 → (xtm i).eval args s none [] s = some (.ref q.1) ∧ va_O "java/lang/String" q.1 A s s.heap ∧ va_OF "java/lang/String" "coder" "B" (.int 0) q.1 A s s.heap ∧ va_OF "java/lang/String" "value" "[B" (.ref q.2) q.1 A s s.heap ∧ va_T .byte q.2 (zLen.getD i 0) (fun j => .int ((zByt.getD i []).getD j 0)) A s s.heap := by
    intro i
    by_cases hi : i < 35
    · have hm : i ∈ List.range 35 := List.mem_range.mpr hi
      obtain ⟨aK, aV, h1, h2⟩ := vk_Sof (args := args) (s := s) (N := 1) (tm := fun _ => xtm i) (len := [zLen.getD i 0]) (byt := [zByt.getD i []]) (A := A)
        (fun k hk => by obtain rfl : k = 0 := by omega
                        exact Nat.lt_trans (x_ln i hi) (by decide))
        (fun _ _ => hfl _ (x_ex _ (List.mem_map.mpr ⟨i, hm, rfl⟩))) (fun _ _ => hfl _ (x_co _ (List.mem_map.mpr ⟨i, hm, rfl⟩)))
        (fun _ _ => hfl _ (x_ar _ (List.mem_map.mpr ⟨i, hm, rfl⟩)))
        (fun k hk => by obtain rfl : k = 0 := by omega
                        exact hfl _ (x_le _ (List.mem_map.mpr ⟨i, hm, rfl⟩)))
        (fun k hk j hj => by obtain rfl : k = 0 := by omega
                             exact hfl _ (x_el _ (List.mem_flatMap.mpr ⟨i, hm, List.mem_map.mpr ⟨j, List.mem_range.mpr hj, rfl⟩⟩)))
        (fun a b ha hb hne => absurd (show a = b by omega) hne) hA
      exact ⟨(aK 0, aV 0), fun _ => ⟨h2 0 (by decide), h1.1 0 (by decide)⟩⟩
    · exact ⟨(0, 0), fun h => absurd h hi⟩
  obtain ⟨ad, had⟩ := Classical.axiomOfChoice h0
  refine ⟨fun i => (ad i).1, fun i => (ad i).2, ⟨fun i hi => (had i hi).2, fun i j hi hj e => ?_⟩, fun i hi => (had i hi).1⟩
  obtain ⟨-, -, -, ⟨cf, k1, i1, f, cell, p1, -, p3, -, p5, -⟩, t1, p6, -, -, -, p7, p8, -⟩ := had i hi
  obtain ⟨-, -, -, ⟨cf', k1', i1', f', cell', r1, -, r3, -, r5, -⟩, t2, r6, -, -, -, r7, r8, -⟩ := had j hj
  have e : (ad i).1 = (ad j).1 := e
  rw [e] at p3
  cases p1.symm.trans r1
  cases p3.symm.trans r3
  have e2 := p5.symm.trans r5
  injection e2 with e2
  injection e2 with e2
  rw [e2] at p6
  cases p6.symm.trans r6
  have e3 : zLen.getD i 0 = zLen.getD j 0 := by
    have e4 : nI (zLen.getD i 0) = nI (zLen.getD j 0) := p7.symm.trans r7
    rw [nI_eq2 (Nat.lt_trans (x_ln i hi) (by decide)) (Nat.lt_trans (x_ln j hj) (by decide))] at e4
    exact e4
  refine x_tx i hi j hj e3 (fun k hk => ?_)
  have e5 := (p8 k hk).symm.trans (r8 k (by rw [← e3]; exact hk))
  injection e5 with e5
  injection e5 with e5
theorem st_eq {t u : Term} {a : Nat} (h : (Cond.eq t u).before args s = true) (ht : t.eval args s none [] s = some (.ref a)) : u.eval args s none [] s = some (.ref a) := by
  cases hu : u.eval args s none [] s with
  | none => simp [Cond.before, Cond.holds, Cond.value, ht, hu] at h
  | some w =>
    simp only [Cond.before, Cond.holds, Cond.value, ht, hu] at h
    cases w <;> simp_all
/-- the start -/
theorem st_X {b L : Nat} {xs : Nat → Int32} (hts : ∀ w ∈ lw_tbl, w.before args s = true) (hX : va_X b L xs s s.heap) (hbl : b < s.heap.size) (hgv : (Jvm.Cond.and given_1 narrow_1).before args s = true) (hm : modulesRight_1 s = true) : ∃ X : ZX, zSx X (va_A [] s.heap.size) s ∧ xK X 99 = b ∧ xL X = L ∧ xS X = xs := by
  have hfl : ∀ w ∈ xfl, w.before args s = true := flat_of_before _ hgv
  have hA : ∀ a : Nat, a < s.heap.size → ¬ va_A [] s.heap.size a := by
    intro a ha h
    rcases h with ⟨k, e, h⟩ | h
    · exact nomatch (show ([] : va_W)[k]? = some (a, e) from h)
    · omega
  have hall : ∀ w ∈ lw_all, w.before args s = true := fun w hw => hts w (lw_all_tbl hw)
  obtain ⟨D, hD⟩ := st_D hall
  obtain ⟨t, ht⟩ := st_T hts
  obtain ⟨adK, adV, hS, hev⟩ := st_S hfl hA
  have o0 := hfl _ (x_ot (Cond.isRef (.static Bundle.tN "UNASSIGNED_STACK" Bundle.steD)) (by simp))
  have o1 := hfl _ (x_ot (Cond.isRef (.static Bundle.tN "SUPPRESSED_SENTINEL" Bundle.listD)) (by simp))
  have o2 := hfl _ (x_ot (Cond.eq (.static "java/lang/String" "COMPACT_STRINGS" "Z") (.int 1)) (by simp))
  have o3 := hfl _ (x_ot (Cond.isRef (.static "jdk/internal/util/Preconditions" "SIOOBE_FORMATTER" "Ljava/util/function/BiFunction;")) (by simp))
  have o4 := hfl _ (x_ot (Cond.isRef (.mirror "[Ljava/lang/Object;")) (by simp))
  obtain ⟨mi, hmi⟩ := va_Mi.of o4
  have w0 := hts _ (st_mem x_tb (w := Cond.laysStatic Bundle.tN "UNASSIGNED_STACK" Bundle.steD) (by simp))
  have w1 := hts _ (st_mem x_tb (w := Cond.laysStatic Bundle.tN "SUPPRESSED_SENTINEL" Bundle.listD) (by simp))
  have w2 := hts _ (st_mem x_tb (w := Cond.laysStatic "java/lang/String" "COMPACT_STRINGS" "Z") (by simp))
  have w3 := hts _ (st_mem x_tb (w := Cond.laysStatic "jdk/internal/util/Preconditions" "SIOOBE_FORMATTER" "Ljava/util/function/BiFunction;") (by simp))
  have w4 := hts _ (st_mem x_tb (w := Cond.initialized Bundle.tN) (by simp))
  have w5 := hts _ (st_mem x_tb (w := Cond.initialized "java/lang/String") (by simp))
  have w6 := hts _ (st_mem x_tb (w := Cond.initialized "jdk/internal/util/Preconditions") (by simp))
  have w7 := hts _ (st_mem x_tb (w := Cond.declares ⟨"java/lang/Object", "getClass", "()Ljava/lang/Class;"⟩) (by simp))
  let K : Nat → Nat := fun n => if n < 35 then adK n else if n < 70 then adV (n - 35) else if n = 98 then mi else b
  have K1 : ∀ i, i < 35 → K i = adK i := fun i h => if_pos h
  have K2 : ∀ i, i < 35 → K (35 + i) = adV i := fun i h => by
    have : K (35 + i) = adV (35 + i - 35) := (if_neg (by omega)).trans (if_pos (by omega))
    rw [this, Nat.add_sub_cancel_left]
  refine ⟨(D, t, K, adV, L, xs), ⟨⟨hD, ht⟩, fun w hw hn => va_Nw.of (zNest_tab hn) (hts w hw), fun q hq => ?_, fun C hC => ?_, fun q hq => ?_, fun q hq => ?_, ?_, hX, hbl, hA b hbl, ?_⟩, rfl, rfl, rfl⟩
  · have hsr := hts _ (List.contains_iff_mem.mp (List.all_eq_true.mp x_st q hq))
    have h2 := List.all_eq_true.mp x_s2 q hq
    rw [Bool.and_eq_true, Bool.or_eq_true, Bool.and_eq_true, Bool.and_eq_true, decide_eq_true_eq] at h2
    obtain ⟨h35, h2⟩ := h2
    refine vk_R.of hsr ?_
    show (Term.string q.1 q.2.1).eval args s none [] s = some (.ref (K q.2.2.2))
    rw [K1 _ h35]
    rcases h2 with ⟨e1, e2⟩ | ⟨e1, e2⟩
    · have h9 := hev _ h35
      unfold xtm at h9
      rw [eq_of_beq e2] at h9
      rw [eq_of_beq e1]
      exact h9
    · rw [eq_of_beq e1]
      exact st_eq (hfl _ (x_eq _ (List.mem_map.mpr ⟨_, List.contains_iff_mem.mp e2, rfl⟩))) (hev _ h35)
  · exact va_AO.of (hts _ (List.contains_iff_mem.mp (List.all_eq_true.mp x_ov C hC)))
  · have h2 := List.all_eq_true.mp x_fc q hq
    simp only [Bool.and_eq_true, List.contains_iff_mem] at h2
    exact va_Fw.of (hts _ h2.1) (hts _ h2.2.1) (hts _ h2.2.2.1) (hts _ h2.2.2.2.1) (hts _ h2.2.2.2.2)
  · exact va_Nc.of (hfl _ (x_nc _ (List.mem_map.mpr ⟨q, hq, rfl⟩)))
  · refine ⟨fun i hi => ?_, fun i j hi hj e => ?_⟩
    · show va_O "java/lang/String" (K i) _ s s.heap ∧ va_OF "java/lang/String" "coder" "B" (.int 0) (K i) _ s s.heap ∧ va_OF "java/lang/String" "value" "[B" (.ref (adV i)) (K i) _ s s.heap ∧ va_T .byte (adV i) (zLen.getD i 0) (fun j => .int ((zByt.getD i []).getD j 0)) _ s s.heap
      rw [K1 i hi]
      exact hS.1 i hi
    · have e : K i = K j := e
      rw [K1 i hi, K1 j hj] at e
      exact hS.2 i j hi hj e
  · exact ⟨va_Zof w2 w5 (va_eqt o2) hA, va_Zqof w3 w6 o3 hA, vx_Zqof w0 w4 o0 hA, vx_Zqof w1 w4 o1 hA, hmi, va_Dc.of w7, K2, hm⟩
end XSTART
