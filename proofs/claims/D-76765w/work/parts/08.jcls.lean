/-! the classes and array types of the ideal heap -/
def jcl : List vw_C := [(RX0, TX0, 15), (RX1, TX1, 16), (RX2, TX2, 3), (RX3, TX3, 19), (RX4, TX4, 1), (RX5, TX5, 19), (RX6, TX6, 2), (RX7, TX7, 6), (RX8, TX8, 2), (RX9, TX9, 4), (RX10, TX10, 3), (RX11, TX11, 7), (RJ2, TJ2, 12), (RJ34, TJ34, 6), (RJ4, TJ4, 3), (RJ38, TJ38, 4), (RJ7, TJ7, 4), (RJ39, TJ39, 3), (RJ41, TJ41, 5), (RJ10, TJ10, 2), (RJ37, TJ37, 2), (RJ42, TJ42, 2), (RJ12, TJ12, 5), (RJ13, TJ13, 5), (RJ43, TJ43, 5), (RJ36, TJ36, 8), (RJ22, TJ22, 6), (RJ44, TJ44, 6), (RJ45, TJ45, 6), (RJ46, TJ46, 6)]
def jty : List FieldType := [.int, .byte, .short, .long, .boolean, .object "java/lang/Object", .object "java/util/HashMap$Node", .object "SegmentedCache$Key", .object "SegmentedCache$Cache$Queue", .object "SegmentedCache$Tape", .array .long]
def jtysD (d : Nat → ClassId) : List (ClassId × FieldType) := [(d 0, .int), (d 1, .byte), (d 2, .short), (d 3, .long), (d 4, .boolean), (d 5, .object "java/lang/Object"), (d 6, .object "java/util/HashMap$Node"), (d 7, .object "SegmentedCache$Key"), (d 8, .object "SegmentedCache$Cache$Queue"), (d 9, .object "SegmentedCache$Tape"), (d 10, .array .long)]
/-- what a class's rows give -/
def jcok (q : vw_C) : Prop := (∀ w ∈ u_ws q.1 q.2.1 q.2.2, w ∈ lw_all) ∧ (∃ ty0 : Nat → FieldType, ∀ k, k < q.2.2 → parseFieldDescriptor (q.2.1 k).2.2.1 = some (ty0 k)) ∧ (∀ a, a < q.2.2 → ∀ b, b < q.2.2 → a ≠ b → (q.2.1 a).2.1 ≠ (q.2.1 b).2.1) ∧ Cond.instantiable q.1 q.2.2 ∈ lw_all ∧ Cond.initialized q.1 ∈ lw_all
theorem jcok_X0 : jcok (RX0, TX0, 15) := ⟨in_X0, ⟨tyX0, tyX0_ok⟩, nmX0, q133, q69⟩
theorem jcok_X1 : jcok (RX1, TX1, 16) := ⟨in_X1, ⟨tyX1, tyX1_ok⟩, nmX1, q141, q70⟩
theorem jcok_X2 : jcok (RX2, TX2, 3) := ⟨in_X2, ⟨tyX2, tyX2_ok⟩, nmX2, q147, q71⟩
theorem jcok_X3 : jcok (RX3, TX3, 19) := ⟨in_X3, ⟨tyX3, tyX3_ok⟩, nmX3, q318, q77⟩
theorem jcok_X4 : jcok (RX4, TX4, 1) := ⟨in_X4, ⟨tyX4, tyX4_ok⟩, nmX4, q424, q81⟩
theorem jcok_X5 : jcok (RX5, TX5, 19) := ⟨in_X5, ⟨tyX5, tyX5_ok⟩, nmX5, q2732, q82⟩
theorem jcok_X6 : jcok (RX6, TX6, 2) := ⟨in_X6, ⟨tyX6, tyX6_ok⟩, nmX6, q1188, q106⟩
theorem jcok_X7 : jcok (RX7, TX7, 6) := ⟨in_X7, ⟨tyX7, tyX7_ok⟩, nmX7, q1877, q115⟩
theorem jcok_X8 : jcok (RX8, TX8, 2) := ⟨in_X8, ⟨tyX8, tyX8_ok⟩, nmX8, q1998, q117⟩
theorem jcok_X9 : jcok (RX9, TX9, 4) := ⟨in_X9, ⟨tyX9, tyX9_ok⟩, nmX9, q2251, q120⟩
theorem jcok_X10 : jcok (RX10, TX10, 3) := ⟨in_X10, ⟨tyX10, tyX10_ok⟩, nmX10, q2284, q121⟩
theorem jcok_X11 : jcok (RX11, TX11, 7) := ⟨in_X11, ⟨tyX11, tyX11_ok⟩, nmX11, q2295, q122⟩
theorem jcok_J2 : jcok (RJ2, TJ2, 12) := ⟨in_J2, ⟨tyJ2, tyJ2_ok⟩, nmJ2, q153, q74⟩
theorem jcok_J34 : jcok (RJ34, TJ34, 6) := ⟨in_J34, ⟨tyJ34, tyJ34_ok⟩, nmJ34, q1571, q113⟩
theorem jcok_J4 : jcok (RJ4, TJ4, 3) := ⟨in_J4, ⟨tyJ4, tyJ4_ok⟩, nmJ4, q226, q76⟩
theorem jcok_J38 : jcok (RJ38, TJ38, 4) := ⟨in_J38, ⟨tyJ38, tyJ38_ok⟩, nmJ38, q2148, q119⟩
theorem jcok_J7 : jcok (RJ7, TJ7, 4) := ⟨in_J7, ⟨tyJ7, tyJ7_ok⟩, nmJ7, q390, q80⟩
theorem jcok_J39 : jcok (RJ39, TJ39, 3) := ⟨in_J39, ⟨tyJ39, tyJ39_ok⟩, nmJ39, q2348, q123⟩
theorem jcok_J41 : jcok (RJ41, TJ41, 5) := ⟨in_J41, ⟨tyJ41, tyJ41_ok⟩, nmJ41, q2410, q126⟩
theorem jcok_J10 : jcok (RJ10, TJ10, 2) := ⟨in_J10, ⟨tyJ10, tyJ10_ok⟩, nmJ10, q517, q85⟩
theorem jcok_J37 : jcok (RJ37, TJ37, 2) := ⟨in_J37, ⟨tyJ37, tyJ37_ok⟩, nmJ37, q2111, q118⟩
theorem jcok_J42 : jcok (RJ42, TJ42, 2) := ⟨in_J42, ⟨tyJ42, tyJ42_ok⟩, nmJ42, q2515, q127⟩
theorem jcok_J12 : jcok (RJ12, TJ12, 5) := ⟨in_J12, ⟨tyJ12, tyJ12_ok⟩, nmJ12, q544, q87⟩
theorem jcok_J13 : jcok (RJ13, TJ13, 5) := ⟨in_J13, ⟨tyJ13, tyJ13_ok⟩, nmJ13, q575, q88⟩
theorem jcok_J43 : jcok (RJ43, TJ43, 5) := ⟨in_J43, ⟨tyJ43, tyJ43_ok⟩, nmJ43, q2547, q128⟩
theorem jcok_J36 : jcok (RJ36, TJ36, 8) := ⟨in_J36, ⟨tyJ36, tyJ36_ok⟩, nmJ36, q699, q116⟩
theorem jcok_J22 : jcok (RJ22, TJ22, 6) := ⟨in_J22, ⟨tyJ22, tyJ22_ok⟩, nmJ22, q737, q97⟩
theorem jcok_J44 : jcok (RJ44, TJ44, 6) := ⟨in_J44, ⟨tyJ44, tyJ44_ok⟩, nmJ44, q2581, q129⟩
theorem jcok_J45 : jcok (RJ45, TJ45, 6) := ⟨in_J45, ⟨tyJ45, tyJ45_ok⟩, nmJ45, q2702, q130⟩
theorem jcok_J46 : jcok (RJ46, TJ46, 6) := ⟨in_J46, ⟨tyJ46, tyJ46_ok⟩, nmJ46, q2716, q131⟩
theorem jclok {ci : Nat} {q : vw_C} (h : jcl[ci]? = some q) : jcok q := by
  match ci, h with
  | 0, h => cases h; exact jcok_X0
  | 1, h => cases h; exact jcok_X1
  | 2, h => cases h; exact jcok_X2
  | 3, h => cases h; exact jcok_X3
  | 4, h => cases h; exact jcok_X4
  | 5, h => cases h; exact jcok_X5
  | 6, h => cases h; exact jcok_X6
  | 7, h => cases h; exact jcok_X7
  | 8, h => cases h; exact jcok_X8
  | 9, h => cases h; exact jcok_X9
  | 10, h => cases h; exact jcok_X10
  | 11, h => cases h; exact jcok_X11
  | 12, h => cases h; exact jcok_J2
  | 13, h => cases h; exact jcok_J34
  | 14, h => cases h; exact jcok_J4
  | 15, h => cases h; exact jcok_J38
  | 16, h => cases h; exact jcok_J7
  | 17, h => cases h; exact jcok_J39
  | 18, h => cases h; exact jcok_J41
  | 19, h => cases h; exact jcok_J10
  | 20, h => cases h; exact jcok_J37
  | 21, h => cases h; exact jcok_J42
  | 22, h => cases h; exact jcok_J12
  | 23, h => cases h; exact jcok_J13
  | 24, h => cases h; exact jcok_J43
  | 25, h => cases h; exact jcok_J36
  | 26, h => cases h; exact jcok_J22
  | 27, h => cases h; exact jcok_J44
  | 28, h => cases h; exact jcok_J45
  | 29, h => cases h; exact jcok_J46
  | n + 30, h => exact absurd h (by simp [jcl])
theorem jcl_0 : jcl[0]? = some (RX0, TX0, 15) := rfl
theorem jcl_1 : jcl[1]? = some (RX1, TX1, 16) := rfl
theorem jcl_2 : jcl[2]? = some (RX2, TX2, 3) := rfl
theorem jcl_3 : jcl[3]? = some (RX3, TX3, 19) := rfl
theorem jcl_4 : jcl[4]? = some (RX4, TX4, 1) := rfl
theorem jcl_5 : jcl[5]? = some (RX5, TX5, 19) := rfl
theorem jcl_6 : jcl[6]? = some (RX6, TX6, 2) := rfl
theorem jcl_7 : jcl[7]? = some (RX7, TX7, 6) := rfl
theorem jcl_8 : jcl[8]? = some (RX8, TX8, 2) := rfl
theorem jcl_9 : jcl[9]? = some (RX9, TX9, 4) := rfl
theorem jcl_10 : jcl[10]? = some (RX10, TX10, 3) := rfl
theorem jcl_11 : jcl[11]? = some (RX11, TX11, 7) := rfl
theorem jcl_12 : jcl[12]? = some (RJ2, TJ2, 12) := rfl
theorem jcl_13 : jcl[13]? = some (RJ34, TJ34, 6) := rfl
theorem jcl_14 : jcl[14]? = some (RJ4, TJ4, 3) := rfl
theorem jcl_15 : jcl[15]? = some (RJ38, TJ38, 4) := rfl
theorem jcl_16 : jcl[16]? = some (RJ7, TJ7, 4) := rfl
theorem jcl_17 : jcl[17]? = some (RJ39, TJ39, 3) := rfl
theorem jcl_18 : jcl[18]? = some (RJ41, TJ41, 5) := rfl
theorem jcl_19 : jcl[19]? = some (RJ10, TJ10, 2) := rfl
theorem jcl_20 : jcl[20]? = some (RJ37, TJ37, 2) := rfl
theorem jcl_21 : jcl[21]? = some (RJ42, TJ42, 2) := rfl
theorem jcl_22 : jcl[22]? = some (RJ12, TJ12, 5) := rfl
theorem jcl_23 : jcl[23]? = some (RJ13, TJ13, 5) := rfl
theorem jcl_24 : jcl[24]? = some (RJ43, TJ43, 5) := rfl
theorem jcl_25 : jcl[25]? = some (RJ36, TJ36, 8) := rfl
theorem jcl_26 : jcl[26]? = some (RJ22, TJ22, 6) := rfl
theorem jcl_27 : jcl[27]? = some (RJ44, TJ44, 6) := rfl
theorem jcl_28 : jcl[28]? = some (RJ45, TJ45, 6) := rfl
theorem jcl_29 : jcl[29]? = some (RJ46, TJ46, 6) := rfl
