/-! what throws -/
set_option maxRecDepth 100000
def exN : Nat → String
  | 1 => "java/lang/IndexOutOfBoundsException"
  | 2 => "java/lang/IllegalArgumentException"
  | 3 => "java/lang/IllegalStateException"
  | _ => ""
theorem i_nle {a b : Int32} (h : a < b) : b ≤ a → False := by
  simp only [Int32.lt_iff_toInt_lt, Int32.le_iff_toInt_le] at *
  omega
theorem i_nlt {a b : Int32} (h : ¬ a < b) : b ≤ a := by
  simp only [Int32.lt_iff_toInt_lt, Int32.le_iff_toInt_le] at *
  omega
theorem thr_X1_must_p : vx_at0 "FirstdanceAgency" 61 "java/lang/IllegalArgumentException" ["java/lang/RuntimeException", "java/lang/Exception"] = [112, 821, 775, 781, 784, 786, 822, 823, 147, 148, 769, 774, 782, 789, 815, 790, 816, 791, 817, 770, 772, 818, 876, 877, 878, 852, 808, 852, 853, 854, 855, 810, 855, 856, 857, 822, 812, 875, 867, 868, 869, 778, 870, 871, 872, 873, 820, 819, 874].filterMap (fun i => lw_tbl[i]?) := by decide +kernel
theorem thr_X1_must_g : (vx_at0 "FirstdanceAgency" 61 "java/lang/IllegalArgumentException" ["java/lang/RuntimeException", "java/lang/Exception"]).all (fun w => goodWord w || okW w) = true := by decide +kernel
theorem thr_X1_must_o : (Cond.classLink "FirstdanceAgency" 59 "java/lang/IllegalArgumentException" :: Cond.initialized "java/lang/IllegalArgumentException" :: vx_at0 "FirstdanceAgency" 61 "java/lang/IllegalArgumentException" ["java/lang/RuntimeException", "java/lang/Exception"]).all vx_ot = true := by decide +kernel

set_option maxHeartbeats 4000000 in
theorem met_X1_must (l : Launch) (D : va_G) (E : Nat → Nat) (hlf : l.stackTraces = false) (b : Bool) (H0 : Heap) : XM l D E yX1_must cX1_must 1 (Option.none : Option Jvm.ClassFile.FieldType) 6 81 1 6 [.int (bI b)] (fun h => h = H0) (fun _ => False) (fun _ => False) (fun _ v h => v = none ∧ (b = true) ∧ h = H0) (fun _ X h => X = "java/lang/IllegalArgumentException" ∧ ¬ (b = true)) := by
  refine XM.start (by decide) (Nat.le_of_ble_eq_true rfl) ?_
  intro p e s m below meth c ls hx hb hr hml hown hlocks hex hts hG hP hS hl
  have hown : s.vm.findClass "FirstdanceAgency" = some m.cls := hown
  subst hP
  have hl : lv_has ls 1 [(0, .int (bI b))] := hl
  refine lv_iload_n hx hb dX1_must_0 rfl (lv_at hl 0 rfl) ?_
  refine lb_if_ne (tgt := 12) hx hb dX1_must_1 (by decide) (fun c1 => ?_) (fun c1 => ?_)
  · exact vx_ret (g_vret hx hb hr hlocks hS ⟨by decide, by decide⟩ dX1_must_12 ⟨rfl, c1, rfl⟩)
  · refine W.eq (g2 := F0 m 4 ls []) rfl ?_
    refine x_throw (own := "FirstdanceAgency") (cls := "java/lang/IllegalArgumentException") (names := ["java/lang/RuntimeException", "java/lang/Exception"]) hx hb hlf hown (by decide) (by decide) q866 q118 hts _ thr_X1_must_p thr_X1_must_g thr_X1_must_o hG (fun _ h => h.elim) (fun _ h => h.elim) hS (hl.1.trans hml.symm) dX1_must_4 dX1_must_7 dX1_must_8 dX1_must_11 hex ⟨by decide, by decide, by decide, by decide⟩ hlocks (fun H1 h1 h2 => ⟨rfl, c1⟩) ⟨by decide, by decide⟩

theorem thr_X1_checkState_p : vx_at0 "FirstdanceAgency" 68 "java/lang/IllegalStateException" ["java/lang/RuntimeException", "java/lang/Exception"] = [112, 821, 775, 781, 784, 786, 822, 823, 147, 148, 769, 774, 782, 789, 815, 790, 816, 791, 817, 770, 772, 818, 898, 899, 900, 852, 808, 852, 853, 854, 855, 810, 855, 856, 857, 822, 812, 897, 889, 890, 891, 779, 892, 893, 894, 895, 820, 819, 896].filterMap (fun i => lw_tbl[i]?) := by decide +kernel
theorem thr_X1_checkState_g : (vx_at0 "FirstdanceAgency" 68 "java/lang/IllegalStateException" ["java/lang/RuntimeException", "java/lang/Exception"]).all (fun w => goodWord w || okW w) = true := by decide +kernel
theorem thr_X1_checkState_o : (Cond.classLink "FirstdanceAgency" 66 "java/lang/IllegalStateException" :: Cond.initialized "java/lang/IllegalStateException" :: vx_at0 "FirstdanceAgency" 68 "java/lang/IllegalStateException" ["java/lang/RuntimeException", "java/lang/Exception"]).all vx_ot = true := by decide +kernel

set_option maxHeartbeats 4000000 in
theorem met_X1_checkState (l : Launch) (D : va_G) (E : Nat → Nat) (hlf : l.stackTraces = false) (b : Bool) (H0 : Heap) : XM l D E yX1_checkState cX1_checkState 1 (Option.none : Option Jvm.ClassFile.FieldType) 6 81 1 6 [.int (bI b)] (fun h => h = H0) (fun _ => False) (fun _ => False) (fun _ v h => v = none ∧ (b = true) ∧ h = H0) (fun _ X h => X = "java/lang/IllegalStateException" ∧ ¬ (b = true)) := by
  refine XM.start (by decide) (Nat.le_of_ble_eq_true rfl) ?_
  intro p e s m below meth c ls hx hb hr hml hown hlocks hex hts hG hP hS hl
  have hown : s.vm.findClass "FirstdanceAgency" = some m.cls := hown
  subst hP
  have hl : lv_has ls 1 [(0, .int (bI b))] := hl
  refine lv_iload_n hx hb dX1_checkState_0 rfl (lv_at hl 0 rfl) ?_
  refine lb_if_ne (tgt := 12) hx hb dX1_checkState_1 (by decide) (fun c1 => ?_) (fun c1 => ?_)
  · exact vx_ret (g_vret hx hb hr hlocks hS ⟨by decide, by decide⟩ dX1_checkState_12 ⟨rfl, c1, rfl⟩)
  · refine W.eq (g2 := F0 m 4 ls []) rfl ?_
    refine x_throw (own := "FirstdanceAgency") (cls := "java/lang/IllegalStateException") (names := ["java/lang/RuntimeException", "java/lang/Exception"]) hx hb hlf hown (by decide) (by decide) q888 q119 hts _ thr_X1_checkState_p thr_X1_checkState_g thr_X1_checkState_o hG (fun _ h => h.elim) (fun _ h => h.elim) hS (hl.1.trans hml.symm) dX1_checkState_4 dX1_checkState_7 dX1_checkState_8 dX1_checkState_11 hex ⟨by decide, by decide, by decide, by decide⟩ hlocks (fun H1 h1 h2 => ⟨rfl, c1⟩) ⟨by decide, by decide⟩

theorem thr_X1_checkPlace_p : vx_at0 "FirstdanceAgency" 71 "java/lang/IndexOutOfBoundsException" ["java/lang/RuntimeException", "java/lang/Exception"] = [112, 821, 775, 781, 784, 786, 822, 823, 147, 148, 769, 774, 782, 789, 815, 790, 816, 791, 817, 770, 772, 818, 849, 850, 851, 852, 808, 852, 853, 854, 855, 810, 855, 856, 857, 822, 812, 848, 840, 841, 842, 780, 843, 844, 845, 846, 820, 819, 847].filterMap (fun i => lw_tbl[i]?) := by decide +kernel
theorem thr_X1_checkPlace_g : (vx_at0 "FirstdanceAgency" 71 "java/lang/IndexOutOfBoundsException" ["java/lang/RuntimeException", "java/lang/Exception"]).all (fun w => goodWord w || okW w) = true := by decide +kernel
theorem thr_X1_checkPlace_o : (Cond.classLink "FirstdanceAgency" 69 "java/lang/IndexOutOfBoundsException" :: Cond.initialized "java/lang/IndexOutOfBoundsException" :: vx_at0 "FirstdanceAgency" 71 "java/lang/IndexOutOfBoundsException" ["java/lang/RuntimeException", "java/lang/Exception"]).all vx_ot = true := by decide +kernel

set_option maxHeartbeats 4000000 in
theorem met_X1_checkPlace (l : Launch) (D : va_G) (E : Nat → Nat) (hlf : l.stackTraces = false) (a b : Int32) (H0 : Heap) : XM l D E yX1_checkPlace cX1_checkPlace 2 (Option.none : Option Jvm.ClassFile.FieldType) 6 81 1 6 [.int a, .int b] (fun h => h = H0) (fun _ => False) (fun _ => False) (fun _ v h => v = none ∧ (0 ≤ a ∧ a < b) ∧ h = H0) (fun _ X h => X = "java/lang/IndexOutOfBoundsException" ∧ ¬ (0 ≤ a ∧ a < b)) := by
  refine XM.start (by decide) (Nat.le_of_ble_eq_true rfl) ?_
  intro p e s m below meth c ls hx hb hr hml hown hlocks hex hts hG hP hS hl
  have hown : s.vm.findClass "FirstdanceAgency" = some m.cls := hown
  subst hP
  have hl : lv_has ls 2 [(0, .int a), (1, .int b)] := hl
  refine lv_iload_n hx hb dX1_checkPlace_0 rfl (lv_at hl 0 rfl) ?_
  refine lv_if_lt (tgt := 9) hx hb dX1_checkPlace_1 (by decide) (fun c1 => ?_) (fun c1 => ?_)
  · have c1 : ¬ 0 ≤ a := fun z => i_nle c1 z
    refine x_throw (own := "FirstdanceAgency") (cls := "java/lang/IndexOutOfBoundsException") (names := ["java/lang/RuntimeException", "java/lang/Exception"]) hx hb hlf hown (by decide) (by decide) q839 q115 hts _ thr_X1_checkPlace_p thr_X1_checkPlace_g thr_X1_checkPlace_o hG (fun _ h => h.elim) (fun _ h => h.elim) hS (hl.1.trans hml.symm) dX1_checkPlace_9 dX1_checkPlace_12 dX1_checkPlace_13 dX1_checkPlace_16 hex ⟨by decide, by decide, by decide, by decide⟩ hlocks (fun H1 h1 h2 => ⟨rfl, fun z => c1 z.1⟩) ⟨by decide, by decide⟩
  · refine lv_iload_n hx hb dX1_checkPlace_4 rfl (lv_at hl 0 rfl) ?_
    refine lv_iload_n hx hb dX1_checkPlace_5 rfl (lv_at hl 1 rfl) ?_
    refine lv_icmp_lt (tgt := 17) hx hb dX1_checkPlace_6 (by decide) (fun c2 => ?_) (fun c2 => ?_)
    · exact vx_ret (g_vret hx hb hr hlocks hS ⟨by decide, by decide⟩ dX1_checkPlace_17 ⟨rfl, ⟨i_nlt c1, c2⟩, rfl⟩)
    · refine W.eq (g2 := F0 m 9 ls []) rfl ?_
      refine x_throw (own := "FirstdanceAgency") (cls := "java/lang/IndexOutOfBoundsException") (names := ["java/lang/RuntimeException", "java/lang/Exception"]) hx hb hlf hown (by decide) (by decide) q839 q115 hts _ thr_X1_checkPlace_p thr_X1_checkPlace_g thr_X1_checkPlace_o hG (fun _ h => h.elim) (fun _ h => h.elim) hS (hl.1.trans hml.symm) dX1_checkPlace_9 dX1_checkPlace_12 dX1_checkPlace_13 dX1_checkPlace_16 hex ⟨by decide, by decide, by decide, by decide⟩ hlocks (fun H1 h1 h2 => ⟨rfl, fun z => c2 z.2⟩) ⟨by decide, by decide⟩

