set_option maxRecDepth 100000
def RL_law : String := "SegmentedCacheLaw"
/-! links: fields (fl_ read, pl_ written), classes (cl_), calls (lk_), callees (ce_), entries (st_) -/
theorem jNp_of {y : MethodName} {n : Nat} (h : (parseMethodDescriptor y.desc).map (fun s => s.parameters.length) = some n) : jNp y n := by
  intro sig hs
  rw [hs] at h
  exact (Option.some.inj h).symm
theorem lk_J0_1 : Cond.methodLink RJ0 1 objectInit ∈ lw_all := q163
theorem lk_J1_43 : jLkI RJ1 43 yJ0_init 0 := ⟨rfl, q160, q161, ⟨by decide, by decide⟩, jNp_of (by decide +kernel)⟩
abbrev wJ0_init : List Cond := ws_ yJ0_init cJ0_init 1 (none)
theorem ce_J0_init : jCe yJ0_init cJ0_init 1 (none) := ⟨q162, q72, by decide⟩
theorem st_J0_init {K : JK} {l : Launch} {lv : Nat} {av : List Value} {h0 : JIH} {QR : JQR} {QX : JQX} (F : JF K) {ls : List (Option Value)} (hls : jent av 1 = ls) (hn : (jsl av).length ≤ 1 := by first | exact Nat.le_of_ble_eq_true rfl | (simp [jsl, jcat_v]; done)) (body : ∀ M : JM, JX M K l cJ0_init RJ0 1 (none) "<init>" [] lv h0 QR QX → J M h0 0 ls []) : Ct K l yJ0_init wJ0_init lv av h0 QR QX := Ct.start F (by decide +kernel) hn hls body
theorem fl_J1_81_J2 : jFL RJ1 81 12 5 := ⟨RJ2, TJ2, 12, "java/util/HashMap", rfl, by decide, Or.inl q180, Or.inl rfl⟩
theorem pl_J1_81_J2 : jPL RJ1 "<init>" 81 12 5 (.float) := ⟨RJ2, TJ2, 12, "java/util/HashMap", rfl, by decide, Or.inr ⟨q180, rfl, rfl, rfl⟩, Or.inl rfl, by decide +kernel⟩
theorem fl_J1_105_J2 : jFL RJ1 105 12 0 := ⟨RJ2, TJ2, 12, "java/util/HashMap", rfl, by decide, Or.inl q171, Or.inl rfl⟩
theorem fl_J1_168_J34 : jFL RJ1 168 13 0 := ⟨RJ34, TJ34, 6, "java/util/HashMap$Node", rfl, by decide, Or.inl q1589, Or.inl rfl⟩
theorem fl_J1_170_J34 : jFL RJ1 170 13 1 := ⟨RJ34, TJ34, 6, "java/util/HashMap$Node", rfl, by decide, Or.inl q1596, Or.inl rfl⟩
theorem lk_J1_173_X0 : jLkV RJ1 173 yJ47_equals RX0 1 := ⟨q1314, q1315, q1317, ⟨by decide, by decide⟩, jNp_of (by decide +kernel)⟩
theorem lk_J1_173_X1 : jLkV RJ1 173 yJ47_equals RX1 1 := ⟨q1314, q1315, q1318, ⟨by decide, by decide⟩, jNp_of (by decide +kernel)⟩
theorem lk_J1_173_X2 : jLkV RJ1 173 yJ47_equals RX2 1 := ⟨q1314, q1315, q1319, ⟨by decide, by decide⟩, jNp_of (by decide +kernel)⟩
theorem lk_J1_173_X3 : jLkV RJ1 173 yJ47_equals RX3 1 := ⟨q1314, q1315, q1328, ⟨by decide, by decide⟩, jNp_of (by decide +kernel)⟩
theorem lk_J1_173_X4 : jLkV RJ1 173 yJ47_equals RX4 1 := ⟨q1314, q1315, q1329, ⟨by decide, by decide⟩, jNp_of (by decide +kernel)⟩
theorem lk_J1_173_X5 : jLkV RJ1 173 yJ47_equals RX5 1 := ⟨q1314, q1315, q1331, ⟨by decide, by decide⟩, jNp_of (by decide +kernel)⟩
theorem lk_J1_173_X6 : jLkV RJ1 173 yJ47_equals RX6 1 := ⟨q1314, q1315, q1321, ⟨by decide, by decide⟩, jNp_of (by decide +kernel)⟩
theorem lk_J1_173_X7 : jLkV RJ1 173 yJ47_equals RX7 1 := ⟨q1314, q1315, q1330, ⟨by decide, by decide⟩, jNp_of (by decide +kernel)⟩
theorem lk_J1_173_X8 : jLkU RJ1 173 ⟨"java/lang/Object", "equals", "(Ljava/lang/Object;)Z"⟩ yX8_equals RX8 1 := ⟨"java/lang/Object", q1314, q1316, Or.inl q1313, ⟨by decide, by decide⟩, q1322, q1323, jNp_of (by decide +kernel)⟩
abbrev wX8_equals : List Cond := ws_ yX8_equals cX8_equals 3 ((some .boolean))
theorem ce_X8_equals : jCe yX8_equals cX8_equals 3 ((some .boolean)) := ⟨q1324, q117, by decide⟩
theorem st_X8_equals {K : JK} {l : Launch} {lv : Nat} {av : List Value} {h0 : JIH} {QR : JQR} {QX : JQX} (F : JF K) {ls : List (Option Value)} (hls : jent av 3 = ls) (hn : (jsl av).length ≤ 3 := by first | exact Nat.le_of_ble_eq_true rfl | (simp [jsl, jcat_v]; done)) (body : ∀ M : JM, JX M K l cX8_equals RX8 3 ((some .boolean)) "equals" [] lv h0 QR QX → J M h0 0 ls []) : Ct K l yX8_equals wX8_equals lv av h0 QR QX := Ct.start F (by decide +kernel) hn hls body
theorem lk_J1_173_X9 : jLkV RJ1 173 yJ47_equals RX9 1 := ⟨q1314, q1315, q1327, ⟨by decide, by decide⟩, jNp_of (by decide +kernel)⟩
theorem lk_J1_173_X10 : jLkV RJ1 173 yJ47_equals RX10 1 := ⟨q1314, q1315, q1320, ⟨by decide, by decide⟩, jNp_of (by decide +kernel)⟩
theorem lk_J1_173_X11 : jLkV RJ1 173 yJ47_equals RX11 1 := ⟨q1314, q1315, q1326, ⟨by decide, by decide⟩, jNp_of (by decide +kernel)⟩
theorem lk_J1_173_J36 : jLkV RJ1 173 yJ47_equals RJ36 1 := ⟨q1314, q1315, q1338, ⟨by decide, by decide⟩, jNp_of (by decide +kernel)⟩
theorem lk_J1_173_J22 : jLkV RJ1 173 yJ47_equals RJ22 1 := ⟨q1314, q1315, q1337, ⟨by decide, by decide⟩, jNp_of (by decide +kernel)⟩
theorem lk_J1_173_J44 : jLkV RJ1 173 yJ47_equals RJ44 1 := ⟨q1314, q1315, q1334, ⟨by decide, by decide⟩, jNp_of (by decide +kernel)⟩
theorem lk_J1_173_J45 : jLkV RJ1 173 yJ47_equals RJ45 1 := ⟨q1314, q1315, q1333, ⟨by decide, by decide⟩, jNp_of (by decide +kernel)⟩
theorem lk_J1_173_J46 : jLkV RJ1 173 yJ47_equals RJ46 1 := ⟨q1314, q1315, q1332, ⟨by decide, by decide⟩, jNp_of (by decide +kernel)⟩
theorem fl_J1_177_J34 : jFL RJ1 177 13 3 := ⟨RJ34, TJ34, 6, "java/util/HashMap$Node", rfl, by decide, Or.inl q1607, Or.inl rfl⟩
theorem cl_J1_180 : jCL RJ1 180 "java/util/HashMap$TreeNode" := q1350
theorem fl_J1_162_J34 : jFL RJ1 162 13 2 := ⟨RJ34, TJ34, 6, "java/util/HashMap$Node", rfl, by decide, Or.inl q1601, Or.inl rfl⟩
theorem pl_J1_177_J34 (nm : String) : jPL RJ1 nm 177 13 3 (.object "java/util/HashMap$Node") := ⟨RJ34, TJ34, 6, "java/util/HashMap$Node", rfl, by decide, Or.inl ⟨Or.inl q1607, rfl⟩, Or.inl rfl, by decide +kernel⟩
theorem fl_J1_202_J2 : jFL RJ1 202 12 3 := ⟨RJ2, TJ2, 12, "java/util/HashMap", rfl, by decide, Or.inl q178, Or.inl rfl⟩
theorem pl_J1_202_J2 (nm : String) : jPL RJ1 nm 202 12 3 (.int) := ⟨RJ2, TJ2, 12, "java/util/HashMap", rfl, by decide, Or.inl ⟨Or.inl q178, rfl⟩, Or.inl rfl, by decide +kernel⟩
theorem fl_J1_156_J2 : jFL RJ1 156 12 2 := ⟨RJ2, TJ2, 12, "java/util/HashMap", rfl, by decide, Or.inl q174, Or.inl rfl⟩
theorem pl_J1_156_J2 (nm : String) : jPL RJ1 nm 156 12 2 (.int) := ⟨RJ2, TJ2, 12, "java/util/HashMap", rfl, by decide, Or.inl ⟨Or.inl q174, rfl⟩, Or.inl rfl, by decide +kernel⟩
theorem lk_J1_236_J2 : jLkU RJ1 236 ⟨"java/util/HashMap", "afterNodeRemoval", "(Ljava/util/HashMap$Node;)V"⟩ yJ2_afterNodeRemoval RJ2 1 := ⟨"java/util/HashMap", q1641, q1643, Or.inl q1647, ⟨by decide, by decide⟩, q1644, q1645, jNp_of (by decide +kernel)⟩
abbrev wJ2_afterNodeRemoval : List Cond := ws_ yJ2_afterNodeRemoval cJ2_afterNodeRemoval 5 (none)
theorem ce_J2_afterNodeRemoval : jCe yJ2_afterNodeRemoval cJ2_afterNodeRemoval 5 (none) := ⟨q1646, q74, by decide⟩
theorem st_J2_afterNodeRemoval {K : JK} {l : Launch} {lv : Nat} {av : List Value} {h0 : JIH} {QR : JQR} {QX : JQX} (F : JF K) {ls : List (Option Value)} (hls : jent av 5 = ls) (hn : (jsl av).length ≤ 5 := by first | exact Nat.le_of_ble_eq_true rfl | (simp [jsl, jcat_v]; done)) (body : ∀ M : JM, JX M K l cJ2_afterNodeRemoval RJ2 5 (none) "afterNodeRemoval" [] lv h0 QR QX → J M h0 0 ls []) : Ct K l yJ2_afterNodeRemoval wJ2_afterNodeRemoval lv av h0 QR QX := Ct.start F (by decide +kernel) hn hls body
theorem lk_J1_149 : jLkS RJ1 149 yJ1_hash 1 := ⟨q1676, q1677, ⟨by decide, by decide⟩, jNp_of (by decide +kernel)⟩
abbrev wJ1_hash : List Cond := ws_ yJ1_hash cJ1_hash 2 ((some .int))
theorem ce_J1_hash : jCe yJ1_hash cJ1_hash 2 ((some .int)) := ⟨q1678, q73, by decide⟩
theorem st_J1_hash {K : JK} {l : Launch} {lv : Nat} {av : List Value} {h0 : JIH} {QR : JQR} {QX : JQX} (F : JF K) {ls : List (Option Value)} (hls : jent av 2 = ls) (hn : (jsl av).length ≤ 2 := by first | exact Nat.le_of_ble_eq_true rfl | (simp [jsl, jcat_v]; done)) (body : ∀ M : JM, JX M K l cJ1_hash RJ1 2 ((some .int)) "hash" [] lv h0 QR QX → J M h0 0 ls []) : Ct K l yJ1_hash wJ1_hash lv av h0 QR QX := Ct.start F (by decide +kernel) hn hls body
theorem lk_J1_152_J2 : jLkV RJ1 152 yJ1_putVal RJ2 5 := ⟨q1760, q1761, q1763, ⟨by decide, by decide⟩, jNp_of (by decide +kernel)⟩
abbrev wJ1_putVal : List Cond := ws_ yJ1_putVal cJ1_putVal 13 ((Option.some (.object "java/lang/Object")))
theorem ce_J1_putVal : jCe yJ1_putVal cJ1_putVal 13 ((Option.some (.object "java/lang/Object"))) := ⟨q1764, q73, by decide⟩
theorem st_J1_putVal {K : JK} {l : Launch} {lv : Nat} {av : List Value} {h0 : JIH} {QR : JQR} {QX : JQX} (F : JF K) {ls : List (Option Value)} (hls : jent av 13 = ls) (hn : (jsl av).length ≤ 13 := by first | exact Nat.le_of_ble_eq_true rfl | (simp [jsl, jcat_v]; done)) (body : ∀ M : JM, JX M K l cJ1_putVal RJ1 13 ((Option.some (.object "java/lang/Object"))) "putVal" [] lv h0 QR QX → J M h0 0 ls []) : Ct K l yJ1_putVal wJ1_putVal lv av h0 QR QX := Ct.start F (by decide +kernel) hn hls body
theorem lk_J1_1_X8 : jLkU RJ1 1 ⟨"java/lang/Object", "hashCode", "()I"⟩ yX8_hashCode RX8 0 := ⟨"java/lang/Object", q1680, q1682, Or.inl q1679, ⟨by decide, by decide⟩, q1688, q1689, jNp_of (by decide +kernel)⟩
abbrev wX8_hashCode : List Cond := ws_ yX8_hashCode cX8_hashCode 1 ((some .int))
theorem ce_X8_hashCode : jCe yX8_hashCode cX8_hashCode 1 ((some .int)) := ⟨q1690, q117, by decide⟩
theorem st_X8_hashCode {K : JK} {l : Launch} {lv : Nat} {av : List Value} {h0 : JIH} {QR : JQR} {QX : JQX} (F : JF K) {ls : List (Option Value)} (hls : jent av 1 = ls) (hn : (jsl av).length ≤ 1 := by first | exact Nat.le_of_ble_eq_true rfl | (simp [jsl, jcat_v]; done)) (body : ∀ M : JM, JX M K l cX8_hashCode RX8 1 ((some .int)) "hashCode" [] lv h0 QR QX → J M h0 0 ls []) : Ct K l yX8_hashCode wX8_hashCode lv av h0 QR QX := Ct.start F (by decide +kernel) hn hls body
theorem lk_J1_117_J2 : jLkV RJ1 117 yJ1_resize RJ2 0 := ⟨q1765, q1766, q1768, ⟨by decide, by decide⟩, jNp_of (by decide +kernel)⟩
abbrev wJ1_resize : List Cond := ws_ yJ1_resize cJ1_resize 14 ((Option.some (.array (.object "java/util/HashMap$Node"))))
theorem ce_J1_resize : jCe yJ1_resize cJ1_resize 14 ((Option.some (.array (.object "java/util/HashMap$Node")))) := ⟨q1769, q73, by decide⟩
theorem st_J1_resize {K : JK} {l : Launch} {lv : Nat} {av : List Value} {h0 : JIH} {QR : JQR} {QX : JQX} (F : JF K) {ls : List (Option Value)} (hls : jent av 14 = ls) (hn : (jsl av).length ≤ 14 := by first | exact Nat.le_of_ble_eq_true rfl | (simp [jsl, jcat_v]; done)) (body : ∀ M : JM, JX M K l cJ1_resize RJ1 14 ((Option.some (.array (.object "java/util/HashMap$Node")))) "resize" [] lv h0 QR QX → J M h0 0 ls []) : Ct K l yJ1_resize wJ1_resize lv av h0 QR QX := Ct.start F (by decide +kernel) hn hls body
theorem lk_J1_186_J2 : jLkU RJ1 186 ⟨"java/util/HashMap", "newNode", "(ILjava/lang/Object;Ljava/lang/Object;Ljava/util/HashMap$Node;)Ljava/util/HashMap$Node;"⟩ yJ2_newNode RJ2 4 := ⟨"java/util/HashMap", q1786, q1788, Or.inl q1796, ⟨by decide, by decide⟩, q1789, q1790, jNp_of (by decide +kernel)⟩
abbrev wJ2_newNode : List Cond := ws_ yJ2_newNode cJ2_newNode 6 ((Option.some (.object "java/util/HashMap$Node")))
theorem ce_J2_newNode : jCe yJ2_newNode cJ2_newNode 6 ((Option.some (.object "java/util/HashMap$Node"))) := ⟨q1791, q74, by decide⟩
theorem st_J2_newNode {K : JK} {l : Launch} {lv : Nat} {av : List Value} {h0 : JIH} {QR : JQR} {QX : JQX} (F : JF K) {ls : List (Option Value)} (hls : jent av 6 = ls) (hn : (jsl av).length ≤ 6 := by first | exact Nat.le_of_ble_eq_true rfl | (simp [jsl, jcat_v]; done)) (body : ∀ M : JM, JX M K l cJ2_newNode RJ2 6 ((Option.some (.object "java/util/HashMap$Node"))) "newNode" [] lv h0 QR QX → J M h0 0 ls []) : Ct K l yJ2_newNode wJ2_newNode lv av h0 QR QX := Ct.start F (by decide +kernel) hn hls body
theorem lk_J1_194_J2 : jLkV RJ1 194 yJ1_treeifyBin RJ2 2 := ⟨q1837, q1838, q1840, ⟨by decide, by decide⟩, jNp_of (by decide +kernel)⟩
abbrev wJ1_treeifyBin : List Cond := ws_ yJ1_treeifyBin cJ1_treeifyBin 9 (none)
theorem ce_J1_treeifyBin : jCe yJ1_treeifyBin cJ1_treeifyBin 9 (none) := ⟨q1841, q73, by decide⟩
theorem st_J1_treeifyBin {K : JK} {l : Launch} {lv : Nat} {av : List Value} {h0 : JIH} {QR : JQR} {QX : JQX} (F : JF K) {ls : List (Option Value)} (hls : jent av 9 = ls) (hn : (jsl av).length ≤ 9 := by first | exact Nat.le_of_ble_eq_true rfl | (simp [jsl, jcat_v]; done)) (body : ∀ M : JM, JX M K l cJ1_treeifyBin RJ1 9 (none) "treeifyBin" [] lv h0 QR QX → J M h0 0 ls []) : Ct K l yJ1_treeifyBin wJ1_treeifyBin lv av h0 QR QX := Ct.start F (by decide +kernel) hn hls body
theorem pl_J1_162_J34 (nm : String) : jPL RJ1 nm 162 13 2 (.object "java/lang/Object") := ⟨RJ34, TJ34, 6, "java/util/HashMap$Node", rfl, by decide, Or.inl ⟨Or.inl q1601, rfl⟩, Or.inl rfl, by decide +kernel⟩
theorem lk_J1_198_J2 : jLkU RJ1 198 ⟨"java/util/HashMap", "afterNodeAccess", "(Ljava/util/HashMap$Node;)V"⟩ yJ2_afterNodeAccess RJ2 1 := ⟨"java/util/HashMap", q1850, q1852, Or.inl q1856, ⟨by decide, by decide⟩, q1853, q1854, jNp_of (by decide +kernel)⟩
abbrev wJ2_afterNodeAccess : List Cond := ws_ yJ2_afterNodeAccess cJ2_afterNodeAccess 7 (none)
theorem ce_J2_afterNodeAccess : jCe yJ2_afterNodeAccess cJ2_afterNodeAccess 7 (none) := ⟨q1855, q74, by decide⟩
theorem st_J2_afterNodeAccess {K : JK} {l : Launch} {lv : Nat} {av : List Value} {h0 : JIH} {QR : JQR} {QX : JQX} (F : JF K) {ls : List (Option Value)} (hls : jent av 7 = ls) (hn : (jsl av).length ≤ 7 := by first | exact Nat.le_of_ble_eq_true rfl | (simp [jsl, jcat_v]; done)) (body : ∀ M : JM, JX M K l cJ2_afterNodeAccess RJ2 7 (none) "afterNodeAccess" [] lv h0 QR QX → J M h0 0 ls []) : Ct K l yJ2_afterNodeAccess wJ2_afterNodeAccess lv av h0 QR QX := Ct.start F (by decide +kernel) hn hls body
theorem fl_J1_88_J2 : jFL RJ1 88 12 4 := ⟨RJ2, TJ2, 12, "java/util/HashMap", rfl, by decide, Or.inl q179, Or.inl rfl⟩
theorem lk_J1_205_J2 : jLkU RJ1 205 ⟨"java/util/HashMap", "afterNodeInsertion", "(Z)V"⟩ yJ2_afterNodeInsertion RJ2 1 := ⟨"java/util/HashMap", q1857, q1859, Or.inl q1867, ⟨by decide, by decide⟩, q1860, q1861, jNp_of (by decide +kernel)⟩
abbrev wJ2_afterNodeInsertion : List Cond := ws_ yJ2_afterNodeInsertion cJ2_afterNodeInsertion 4 (none)
theorem ce_J2_afterNodeInsertion : jCe yJ2_afterNodeInsertion cJ2_afterNodeInsertion 4 (none) := ⟨q1862, q74, by decide⟩
theorem st_J2_afterNodeInsertion {K : JK} {l : Launch} {lv : Nat} {av : List Value} {h0 : JIH} {QR : JQR} {QX : JQX} (F : JF K) {ls : List (Option Value)} (hls : jent av 4 = ls) (hn : (jsl av).length ≤ 4 := by first | exact Nat.le_of_ble_eq_true rfl | (simp [jsl, jcat_v]; done)) (body : ∀ M : JM, JX M K l cJ2_afterNodeInsertion RJ2 4 (none) "afterNodeInsertion" [] lv h0 QR QX → J M h0 0 ls []) : Ct K l yJ2_afterNodeInsertion wJ2_afterNodeInsertion lv av h0 QR QX := Ct.start F (by decide +kernel) hn hls body
theorem pl_J1_88_J2 (nm : String) : jPL RJ1 nm 88 12 4 (.int) := ⟨RJ2, TJ2, 12, "java/util/HashMap", rfl, by decide, Or.inl ⟨Or.inl q179, rfl⟩, Or.inl rfl, by decide +kernel⟩
theorem cl_J1_163 : jCL RJ1 163 "java/util/HashMap$Node" := q1773
theorem pl_J1_105_J2 (nm : String) : jPL RJ1 nm 105 12 0 (.array (.object "java/util/HashMap$Node")) := ⟨RJ2, TJ2, 12, "java/util/HashMap", rfl, by decide, Or.inl ⟨Or.inl q171, rfl⟩, Or.inl rfl, by decide +kernel⟩
theorem lk_J1_158_J2 : jLkV RJ1 158 yJ1_getNode RJ2 1 := ⟨q2044, q2026, q3025, ⟨by decide, by decide⟩, jNp_of (by decide +kernel)⟩
abbrev wJ1_getNode : List Cond := ws_ yJ1_getNode cJ1_getNode 8 ((Option.some (.object "java/util/HashMap$Node")))
theorem ce_J1_getNode : jCe yJ1_getNode cJ1_getNode 8 ((Option.some (.object "java/util/HashMap$Node"))) := ⟨q2027, q73, by decide⟩
theorem st_J1_getNode {K : JK} {l : Launch} {lv : Nat} {av : List Value} {h0 : JIH} {QR : JQR} {QX : JQX} (F : JF K) {ls : List (Option Value)} (hls : jent av 8 = ls) (hn : (jsl av).length ≤ 8 := by first | exact Nat.le_of_ble_eq_true rfl | (simp [jsl, jcat_v]; done)) (body : ∀ M : JM, JX M K l cJ1_getNode RJ1 8 ((Option.some (.object "java/util/HashMap$Node"))) "getNode" [] lv h0 QR QX → J M h0 0 ls []) : Ct K l yJ1_getNode wJ1_getNode lv av h0 QR QX := Ct.start F (by decide +kernel) hn hls body
theorem lk_J1_228_J2 : jLkV RJ1 228 yJ1_removeNode RJ2 5 := ⟨q2061, q1311, q3027, ⟨by decide, by decide⟩, jNp_of (by decide +kernel)⟩
abbrev wJ1_removeNode : List Cond := ws_ yJ1_removeNode cJ1_removeNode 14 ((Option.some (.object "java/util/HashMap$Node")))
theorem ce_J1_removeNode : jCe yJ1_removeNode cJ1_removeNode 14 ((Option.some (.object "java/util/HashMap$Node"))) := ⟨q1312, q73, by decide⟩
theorem st_J1_removeNode {K : JK} {l : Launch} {lv : Nat} {av : List Value} {h0 : JIH} {QR : JQR} {QX : JQX} (F : JF K) {ls : List (Option Value)} (hls : jent av 14 = ls) (hn : (jsl av).length ≤ 14 := by first | exact Nat.le_of_ble_eq_true rfl | (simp [jsl, jcat_v]; done)) (body : ∀ M : JM, JX M K l cJ1_removeNode RJ1 14 ((Option.some (.object "java/util/HashMap$Node"))) "removeNode" [] lv h0 QR QX → J M h0 0 ls []) : Ct K l yJ1_removeNode wJ1_removeNode lv av h0 QR QX := Ct.start F (by decide +kernel) hn hls body
theorem lk_J2_87 : jLkI RJ2 87 yJ1_init 0 := ⟨rfl, q157, q158, ⟨by decide, by decide⟩, jNp_of (by decide +kernel)⟩
abbrev wJ1_init : List Cond := ws_ yJ1_init cJ1_init 1 (none)
theorem ce_J1_init : jCe yJ1_init cJ1_init 1 (none) := ⟨q159, q73, by decide⟩
theorem st_J1_init {K : JK} {l : Launch} {lv : Nat} {av : List Value} {h0 : JIH} {QR : JQR} {QX : JQX} (F : JF K) {ls : List (Option Value)} (hls : jent av 1 = ls) (hn : (jsl av).length ≤ 1 := by first | exact Nat.le_of_ble_eq_true rfl | (simp [jsl, jcat_v]; done)) (body : ∀ M : JM, JX M K l cJ1_init RJ1 1 (none) "<init>" [] lv h0 QR QX → J M h0 0 ls []) : Ct K l yJ1_init wJ1_init lv av h0 QR QX := Ct.start F (by decide +kernel) hn hls body
theorem fl_J2_1_J2 : jFL RJ2 1 12 11 := ⟨RJ2, TJ2, 12, "java/util/LinkedHashMap", rfl, by decide, Or.inl q170, Or.inl rfl⟩
theorem pl_J2_1_J2 (nm : String) : jPL RJ2 nm 1 12 11 (.int) := ⟨RJ2, TJ2, 12, "java/util/LinkedHashMap", rfl, by decide, Or.inl ⟨Or.inl q170, rfl⟩, Or.inl rfl, by decide +kernel⟩
theorem fl_J2_64_J2 : jFL RJ2 64 12 10 := ⟨RJ2, TJ2, 12, "java/util/LinkedHashMap", rfl, by decide, Or.inl q169, Or.inl rfl⟩
theorem pl_J2_64_J2 : jPL RJ2 "<init>" 64 12 10 (.boolean) := ⟨RJ2, TJ2, 12, "java/util/LinkedHashMap", rfl, by decide, Or.inr ⟨q169, rfl, rfl, rfl⟩, Or.inl rfl, by decide +kernel⟩
theorem lk_J2_148_J2 : jLkV RJ2 148 yJ2_sequencedEntrySet RJ2 0 := ⟨q512, q513, q514, ⟨by decide, by decide⟩, jNp_of (by decide +kernel)⟩
abbrev wJ2_sequencedEntrySet : List Cond := ws_ yJ2_sequencedEntrySet cJ2_sequencedEntrySet 3 ((Option.some (.object "java/util/SequencedSet")))
theorem ce_J2_sequencedEntrySet : jCe yJ2_sequencedEntrySet cJ2_sequencedEntrySet 3 ((Option.some (.object "java/util/SequencedSet"))) := ⟨q515, q74, by decide⟩
theorem st_J2_sequencedEntrySet {K : JK} {l : Launch} {lv : Nat} {av : List Value} {h0 : JIH} {QR : JQR} {QX : JQX} (F : JF K) {ls : List (Option Value)} (hls : jent av 3 = ls) (hn : (jsl av).length ≤ 3 := by first | exact Nat.le_of_ble_eq_true rfl | (simp [jsl, jcat_v]; done)) (body : ∀ M : JM, JX M K l cJ2_sequencedEntrySet RJ2 3 ((Option.some (.object "java/util/SequencedSet"))) "sequencedEntrySet" [] lv h0 QR QX → J M h0 0 ls []) : Ct K l yJ2_sequencedEntrySet wJ2_sequencedEntrySet lv av h0 QR QX := Ct.start F (by decide +kernel) hn hls body
theorem fl_J2_151_J2 : jFL RJ2 151 12 1 := ⟨RJ2, TJ2, 12, "java/util/LinkedHashMap", rfl, by decide, Or.inl q172, Or.inr q173⟩
theorem cl_J2_154 : jCL RJ2 154 "java/util/LinkedHashMap$LinkedEntrySet" := q516
theorem lk_J2_156 : jLkI RJ2 156 yJ10_init 2 := ⟨rfl, q518, q519, ⟨by decide, by decide⟩, jNp_of (by decide +kernel)⟩
abbrev wJ10_init : List Cond := ws_ yJ10_init cJ10_init 3 (none)
theorem ce_J10_init : jCe yJ10_init cJ10_init 3 (none) := ⟨q520, q85, by decide⟩
theorem st_J10_init {K : JK} {l : Launch} {lv : Nat} {av : List Value} {h0 : JIH} {QR : JQR} {QX : JQX} (F : JF K) {ls : List (Option Value)} (hls : jent av 3 = ls) (hn : (jsl av).length ≤ 3 := by first | exact Nat.le_of_ble_eq_true rfl | (simp [jsl, jcat_v]; done)) (body : ∀ M : JM, JX M K l cJ10_init RJ10 3 (none) "<init>" [] lv h0 QR QX → J M h0 0 ls []) : Ct K l yJ10_init wJ10_init lv av h0 QR QX := Ct.start F (by decide +kernel) hn hls body
theorem pl_J2_151_J2 (nm : String) : jPL RJ2 nm 151 12 1 (.object "java/util/Set") := ⟨RJ2, TJ2, 12, "java/util/LinkedHashMap", rfl, by decide, Or.inl ⟨Or.inl q172, rfl⟩, Or.inr q173, by decide +kernel⟩
theorem cl_J2_126 : jCL RJ2 126 "java/util/SequencedSet" := q532
theorem cl_J2_15 : jCL RJ2 15 "java/util/LinkedHashMap$Entry" := q1570
theorem fl_J2_19_J34 : jFL RJ2 19 13 4 := ⟨RJ34, TJ34, 6, "java/util/LinkedHashMap$Entry", rfl, by decide, Or.inl q1579, Or.inl rfl⟩
theorem fl_J2_14_J34 : jFL RJ2 14 13 5 := ⟨RJ34, TJ34, 6, "java/util/LinkedHashMap$Entry", rfl, by decide, Or.inl q1581, Or.inl rfl⟩
theorem pl_J2_14_J34 (nm : String) : jPL RJ2 nm 14 13 5 (.object "java/util/LinkedHashMap$Entry") := ⟨RJ34, TJ34, 6, "java/util/LinkedHashMap$Entry", rfl, by decide, Or.inl ⟨Or.inl q1581, rfl⟩, Or.inl rfl, by decide +kernel⟩
theorem pl_J2_19_J34 (nm : String) : jPL RJ2 nm 19 13 4 (.object "java/util/LinkedHashMap$Entry") := ⟨RJ34, TJ34, 6, "java/util/LinkedHashMap$Entry", rfl, by decide, Or.inl ⟨Or.inl q1579, rfl⟩, Or.inl rfl, by decide +kernel⟩
theorem fl_J2_7_J2 : jFL RJ2 7 12 8 := ⟨RJ2, TJ2, 12, "java/util/LinkedHashMap", rfl, by decide, Or.inl q165, Or.inl rfl⟩
theorem pl_J2_7_J2 (nm : String) : jPL RJ2 nm 7 12 8 (.object "java/util/LinkedHashMap$Entry") := ⟨RJ2, TJ2, 12, "java/util/LinkedHashMap", rfl, by decide, Or.inl ⟨Or.inl q165, rfl⟩, Or.inl rfl, by decide +kernel⟩
theorem fl_J2_11_J2 : jFL RJ2 11 12 9 := ⟨RJ2, TJ2, 12, "java/util/LinkedHashMap", rfl, by decide, Or.inl q168, Or.inl rfl⟩
theorem pl_J2_11_J2 (nm : String) : jPL RJ2 nm 11 12 9 (.object "java/util/LinkedHashMap$Entry") := ⟨RJ2, TJ2, 12, "java/util/LinkedHashMap", rfl, by decide, Or.inl ⟨Or.inl q168, rfl⟩, Or.inl rfl, by decide +kernel⟩
theorem lk_J2_28 : jLkI RJ2 28 yJ34_init 4 := ⟨rfl, q1572, q1573, ⟨by decide, by decide⟩, jNp_of (by decide +kernel)⟩
abbrev wJ34_init : List Cond := ws_ yJ34_init cJ34_init 5 (none)
theorem ce_J34_init : jCe yJ34_init cJ34_init 5 (none) := ⟨q1574, q113, by decide⟩
theorem st_J34_init {K : JK} {l : Launch} {lv : Nat} {av : List Value} {h0 : JIH} {QR : JQR} {QX : JQX} (F : JF K) {ls : List (Option Value)} (hls : jent av 5 = ls) (hn : (jsl av).length ≤ 5 := by first | exact Nat.le_of_ble_eq_true rfl | (simp [jsl, jcat_v]; done)) (body : ∀ M : JM, JX M K l cJ34_init RJ34 5 (none) "<init>" [] lv h0 QR QX → J M h0 0 ls []) : Ct K l yJ34_init wJ34_init lv av h0 QR QX := Ct.start F (by decide +kernel) hn hls body
theorem lk_J2_32_J2 : jLkV RJ2 32 yJ2_linkNodeAtEnd RJ2 1 := ⟨q1792, q1794, qs10, ⟨by decide, by decide⟩, jNp_of (by decide +kernel)⟩
abbrev wJ2_linkNodeAtEnd : List Cond := ws_ yJ2_linkNodeAtEnd cJ2_linkNodeAtEnd 3 (none)
theorem ce_J2_linkNodeAtEnd : jCe yJ2_linkNodeAtEnd cJ2_linkNodeAtEnd 3 (none) := ⟨q1795, q74, by decide⟩
theorem st_J2_linkNodeAtEnd {K : JK} {l : Launch} {lv : Nat} {av : List Value} {h0 : JIH} {QR : JQR} {QX : JQX} (F : JF K) {ls : List (Option Value)} (hls : jent av 3 = ls) (hn : (jsl av).length ≤ 3 := by first | exact Nat.le_of_ble_eq_true rfl | (simp [jsl, jcat_v]; done)) (body : ∀ M : JM, JX M K l cJ2_linkNodeAtEnd RJ2 3 (none) "linkNodeAtEnd" [] lv h0 QR QX → J M h0 0 ls []) : Ct K l yJ2_linkNodeAtEnd wJ2_linkNodeAtEnd lv av h0 QR QX := Ct.start F (by decide +kernel) hn hls body
theorem fl_J2_68_J2 : jFL RJ2 68 12 3 := ⟨RJ2, TJ2, 12, "java/util/LinkedHashMap", rfl, by decide, Or.inl q177, Or.inr q176⟩
theorem pl_J2_68_J2 (nm : String) : jPL RJ2 nm 68 12 3 (.int) := ⟨RJ2, TJ2, 12, "java/util/LinkedHashMap", rfl, by decide, Or.inl ⟨Or.inl q177, rfl⟩, Or.inr q176, by decide +kernel⟩
theorem lk_J2_53_J2 : jLkV RJ2 53 yJ2_removeEldestEntry RJ2 1 := ⟨q1863, q1864, q1865, ⟨by decide, by decide⟩, jNp_of (by decide +kernel)⟩
abbrev wJ2_removeEldestEntry : List Cond := ws_ yJ2_removeEldestEntry cJ2_removeEldestEntry 2 ((some .boolean))
theorem ce_J2_removeEldestEntry : jCe yJ2_removeEldestEntry cJ2_removeEldestEntry 2 ((some .boolean)) := ⟨q1866, q74, by decide⟩
theorem st_J2_removeEldestEntry {K : JK} {l : Launch} {lv : Nat} {av : List Value} {h0 : JIH} {QR : JQR} {QX : JQX} (F : JF K) {ls : List (Option Value)} (hls : jent av 2 = ls) (hn : (jsl av).length ≤ 2 := by first | exact Nat.le_of_ble_eq_true rfl | (simp [jsl, jcat_v]; done)) (body : ∀ M : JM, JX M K l cJ2_removeEldestEntry RJ2 2 ((some .boolean)) "removeEldestEntry" [] lv h0 QR QX → J M h0 0 ls []) : Ct K l yJ2_removeEldestEntry wJ2_removeEldestEntry lv av h0 QR QX := Ct.start F (by decide +kernel) hn hls body
theorem fl_J2_39_J34 : jFL RJ2 39 13 1 := ⟨RJ34, TJ34, 6, "java/util/LinkedHashMap$Entry", rfl, by decide, Or.inl q1594, Or.inr q1595⟩
theorem lk_J2_99_J2 : jLkU RJ2 99 ⟨"java/util/LinkedHashMap", "getNode", "(Ljava/lang/Object;)Ljava/util/HashMap$Node;"⟩ yJ1_getNode RJ2 1 := ⟨"java/util/HashMap", q2022, q2023, Or.inl q2024, ⟨by decide, by decide⟩, q2025, q2026, jNp_of (by decide +kernel)⟩
theorem lk_J2_103_J2 : jLkV RJ2 103 yJ2_afterNodeAccess RJ2 1 := ⟨q2028, q1854, q3023, ⟨by decide, by decide⟩, jNp_of (by decide +kernel)⟩
theorem fl_J2_107_J34 : jFL RJ2 107 13 2 := ⟨RJ34, TJ34, 6, "java/util/HashMap$Node", rfl, by decide, Or.inl q1602, Or.inl rfl⟩
theorem lk_J2_113_J2 : jLkV RJ2 113 yJ2_sequencedKeySet RJ2 0 := ⟨q2106, q2107, q2108, ⟨by decide, by decide⟩, jNp_of (by decide +kernel)⟩
abbrev wJ2_sequencedKeySet : List Cond := ws_ yJ2_sequencedKeySet cJ2_sequencedKeySet 3 ((Option.some (.object "java/util/SequencedSet")))
theorem ce_J2_sequencedKeySet : jCe yJ2_sequencedKeySet cJ2_sequencedKeySet 3 ((Option.some (.object "java/util/SequencedSet"))) := ⟨q2109, q74, by decide⟩
theorem st_J2_sequencedKeySet {K : JK} {l : Launch} {lv : Nat} {av : List Value} {h0 : JIH} {QR : JQR} {QX : JQX} (F : JF K) {ls : List (Option Value)} (hls : jent av 3 = ls) (hn : (jsl av).length ≤ 3 := by first | exact Nat.le_of_ble_eq_true rfl | (simp [jsl, jcat_v]; done)) (body : ∀ M : JM, JX M K l cJ2_sequencedKeySet RJ2 3 ((Option.some (.object "java/util/SequencedSet"))) "sequencedKeySet" [] lv h0 QR QX → J M h0 0 ls []) : Ct K l yJ2_sequencedKeySet wJ2_sequencedKeySet lv av h0 QR QX := Ct.start F (by decide +kernel) hn hls body
theorem fl_J2_117_J2 : jFL RJ2 117 12 6 := ⟨RJ2, TJ2, 12, "java/util/LinkedHashMap", rfl, by decide, Or.inl q181, Or.inr q182⟩
theorem cl_J2_121 : jCL RJ2 121 "java/util/LinkedHashMap$LinkedKeySet" := q2110
theorem lk_J2_123 : jLkI RJ2 123 yJ37_init 2 := ⟨rfl, q2112, q2113, ⟨by decide, by decide⟩, jNp_of (by decide +kernel)⟩
abbrev wJ37_init : List Cond := ws_ yJ37_init cJ37_init 3 (none)
theorem ce_J37_init : jCe yJ37_init cJ37_init 3 (none) := ⟨q2114, q118, by decide⟩
theorem st_J37_init {K : JK} {l : Launch} {lv : Nat} {av : List Value} {h0 : JIH} {QR : JQR} {QX : JQX} (F : JF K) {ls : List (Option Value)} (hls : jent av 3 = ls) (hn : (jsl av).length ≤ 3 := by first | exact Nat.le_of_ble_eq_true rfl | (simp [jsl, jcat_v]; done)) (body : ∀ M : JM, JX M K l cJ37_init RJ37 3 (none) "<init>" [] lv h0 QR QX → J M h0 0 ls []) : Ct K l yJ37_init wJ37_init lv av h0 QR QX := Ct.start F (by decide +kernel) hn hls body
theorem pl_J2_117_J2 (nm : String) : jPL RJ2 nm 117 12 6 (.object "java/util/Set") := ⟨RJ2, TJ2, 12, "java/util/LinkedHashMap", rfl, by decide, Or.inl ⟨Or.inl q181, rfl⟩, Or.inr q182, by decide +kernel⟩
theorem lk_J2_135_J2 : jLkV RJ2 135 yJ2_sequencedValues RJ2 0 := ⟨q2510, q2511, q2512, ⟨by decide, by decide⟩, jNp_of (by decide +kernel)⟩
abbrev wJ2_sequencedValues : List Cond := ws_ yJ2_sequencedValues cJ2_sequencedValues 3 ((Option.some (.object "java/util/SequencedCollection")))
theorem ce_J2_sequencedValues : jCe yJ2_sequencedValues cJ2_sequencedValues 3 ((Option.some (.object "java/util/SequencedCollection"))) := ⟨q2513, q74, by decide⟩
theorem st_J2_sequencedValues {K : JK} {l : Launch} {lv : Nat} {av : List Value} {h0 : JIH} {QR : JQR} {QX : JQX} (F : JF K) {ls : List (Option Value)} (hls : jent av 3 = ls) (hn : (jsl av).length ≤ 3 := by first | exact Nat.le_of_ble_eq_true rfl | (simp [jsl, jcat_v]; done)) (body : ∀ M : JM, JX M K l cJ2_sequencedValues RJ2 3 ((Option.some (.object "java/util/SequencedCollection"))) "sequencedValues" [] lv h0 QR QX → J M h0 0 ls []) : Ct K l yJ2_sequencedValues wJ2_sequencedValues lv av h0 QR QX := Ct.start F (by decide +kernel) hn hls body
theorem fl_J2_139_J2 : jFL RJ2 139 12 7 := ⟨RJ2, TJ2, 12, "java/util/LinkedHashMap", rfl, by decide, Or.inl q183, Or.inr q184⟩
theorem cl_J2_143 : jCL RJ2 143 "java/util/LinkedHashMap$LinkedValues" := q2514
theorem lk_J2_145 : jLkI RJ2 145 yJ42_init 2 := ⟨rfl, q2516, q2517, ⟨by decide, by decide⟩, jNp_of (by decide +kernel)⟩
abbrev wJ42_init : List Cond := ws_ yJ42_init cJ42_init 3 (none)
theorem ce_J42_init : jCe yJ42_init cJ42_init 3 (none) := ⟨q2518, q127, by decide⟩
theorem st_J42_init {K : JK} {l : Launch} {lv : Nat} {av : List Value} {h0 : JIH} {QR : JQR} {QX : JQX} (F : JF K) {ls : List (Option Value)} (hls : jent av 3 = ls) (hn : (jsl av).length ≤ 3 := by first | exact Nat.le_of_ble_eq_true rfl | (simp [jsl, jcat_v]; done)) (body : ∀ M : JM, JX M K l cJ42_init RJ42 3 (none) "<init>" [] lv h0 QR QX → J M h0 0 ls []) : Ct K l yJ42_init wJ42_init lv av h0 QR QX := Ct.start F (by decide +kernel) hn hls body
theorem pl_J2_139_J2 (nm : String) : jPL RJ2 nm 139 12 7 (.object "java/util/Collection") := ⟨RJ2, TJ2, 12, "java/util/LinkedHashMap", rfl, by decide, Or.inl ⟨Or.inl q183, rfl⟩, Or.inr q184, by decide +kernel⟩
theorem cl_J2_146 : jCL RJ2 146 "java/util/SequencedCollection" := q2527
theorem lk_J2_110 : jLkSU RJ2 110 yJ1_clear 0 := ⟨q2624, q3031, q209, q2625, by decide, jNp_of (by decide +kernel)⟩
abbrev wJ1_clear : List Cond := ws_ yJ1_clear cJ1_clear 3 (none)
theorem ce_J1_clear : jCe yJ1_clear cJ1_clear 3 (none) := ⟨q2626, q73, by decide⟩
theorem st_J1_clear {K : JK} {l : Launch} {lv : Nat} {av : List Value} {h0 : JIH} {QR : JQR} {QX : JQX} (F : JF K) {ls : List (Option Value)} (hls : jent av 3 = ls) (hn : (jsl av).length ≤ 3 := by first | exact Nat.le_of_ble_eq_true rfl | (simp [jsl, jcat_v]; done)) (body : ∀ M : JM, JX M K l cJ1_clear RJ1 3 (none) "clear" [] lv h0 QR QX → J M h0 0 ls []) : Ct K l yJ1_clear wJ1_clear lv av h0 QR QX := Ct.start F (by decide +kernel) hn hls body
theorem lk_J3_1 : Cond.methodLink RJ3 1 objectInit ∈ lw_all := q233
theorem lk_J4_42 : jLkI RJ4 42 yJ3_init 0 := ⟨rfl, q230, q231, ⟨by decide, by decide⟩, jNp_of (by decide +kernel)⟩
abbrev wJ3_init : List Cond := ws_ yJ3_init cJ3_init 1 (none)
theorem ce_J3_init : jCe yJ3_init cJ3_init 1 (none) := ⟨q232, q75, by decide⟩
theorem st_J3_init {K : JK} {l : Launch} {lv : Nat} {av : List Value} {h0 : JIH} {QR : JQR} {QX : JQX} (F : JF K) {ls : List (Option Value)} (hls : jent av 1 = ls) (hn : (jsl av).length ≤ 1 := by first | exact Nat.le_of_ble_eq_true rfl | (simp [jsl, jcat_v]; done)) (body : ∀ M : JM, JX M K l cJ3_init RJ3 1 (none) "<init>" [] lv h0 QR QX → J M h0 0 ls []) : Ct K l yJ3_init wJ3_init lv av h0 QR QX := Ct.start F (by decide +kernel) hn hls body
theorem cl_J4_47 : jCL RJ4 47 "java/lang/Object" := q234
theorem fl_J4_3_J4 : jFL RJ4 3 14 0 := ⟨RJ4, TJ4, 3, "java/util/ArrayDeque", rfl, by decide, Or.inl q236, Or.inl rfl⟩
theorem pl_J4_3_J4 (nm : String) : jPL RJ4 nm 3 14 0 (.array (.object "java/lang/Object")) := ⟨RJ4, TJ4, 3, "java/util/ArrayDeque", rfl, by decide, Or.inl ⟨Or.inl q236, rfl⟩, Or.inl rfl, by decide +kernel⟩
theorem fl_J4_24_J4 : jFL RJ4 24 14 1 := ⟨RJ4, TJ4, 3, "java/util/ArrayDeque", rfl, by decide, Or.inl q239, Or.inl rfl⟩
theorem lk_J4_127 : jLkS RJ4 127 yJ4_sub 3 := ⟨q1289, q1290, ⟨by decide, by decide⟩, jNp_of (by decide +kernel)⟩
abbrev wJ4_sub : List Cond := ws_ yJ4_sub cJ4_sub 3 ((some .int))
theorem ce_J4_sub : jCe yJ4_sub cJ4_sub 3 ((some .int)) := ⟨q1291, q76, by decide⟩
theorem st_J4_sub {K : JK} {l : Launch} {lv : Nat} {av : List Value} {h0 : JIH} {QR : JQR} {QX : JQX} (F : JF K) {ls : List (Option Value)} (hls : jent av 3 = ls) (hn : (jsl av).length ≤ 3 := by first | exact Nat.le_of_ble_eq_true rfl | (simp [jsl, jcat_v]; done)) (body : ∀ M : JM, JX M K l cJ4_sub RJ4 3 ((some .int)) "sub" [] lv h0 QR QX → J M h0 0 ls []) : Ct K l yJ4_sub wJ4_sub lv av h0 QR QX := Ct.start F (by decide +kernel) hn hls body
theorem fl_J4_20_J4 : jFL RJ4 20 14 2 := ⟨RJ4, TJ4, 3, "java/util/ArrayDeque", rfl, by decide, Or.inl q240, Or.inl rfl⟩
theorem lk_J4_74 : jLkS RJ4 74 yJ4_inc 2 := ⟨q1293, q1136, ⟨by decide, by decide⟩, jNp_of (by decide +kernel)⟩
abbrev wJ4_inc : List Cond := ws_ yJ4_inc cJ4_inc 2 ((some .int))
theorem ce_J4_inc : jCe yJ4_inc cJ4_inc 2 ((some .int)) := ⟨q1137, q76, by decide⟩
theorem st_J4_inc {K : JK} {l : Launch} {lv : Nat} {av : List Value} {h0 : JIH} {QR : JQR} {QX : JQX} (F : JF K) {ls : List (Option Value)} (hls : jent av 2 = ls) (hn : (jsl av).length ≤ 2 := by first | exact Nat.le_of_ble_eq_true rfl | (simp [jsl, jcat_v]; done)) (body : ∀ M : JM, JX M K l cJ4_inc RJ4 2 ((some .int)) "inc" [] lv h0 QR QX → J M h0 0 ls []) : Ct K l yJ4_inc wJ4_inc lv av h0 QR QX := Ct.start F (by decide +kernel) hn hls body
theorem pl_J4_24_J4 (nm : String) : jPL RJ4 nm 24 14 1 (.int) := ⟨RJ4, TJ4, 3, "java/util/ArrayDeque", rfl, by decide, Or.inl ⟨Or.inl q239, rfl⟩, Or.inl rfl, by decide +kernel⟩
theorem lk_J4_68 : jLkS RJ4 68 yJ4_dec 2 := ⟨q1294, q1295, ⟨by decide, by decide⟩, jNp_of (by decide +kernel)⟩
abbrev wJ4_dec : List Cond := ws_ yJ4_dec cJ4_dec 2 ((some .int))
theorem ce_J4_dec : jCe yJ4_dec cJ4_dec 2 ((some .int)) := ⟨q1296, q76, by decide⟩
theorem st_J4_dec {K : JK} {l : Launch} {lv : Nat} {av : List Value} {h0 : JIH} {QR : JQR} {QX : JQX} (F : JF K) {ls : List (Option Value)} (hls : jent av 2 = ls) (hn : (jsl av).length ≤ 2 := by first | exact Nat.le_of_ble_eq_true rfl | (simp [jsl, jcat_v]; done)) (body : ∀ M : JM, JX M K l cJ4_dec RJ4 2 ((some .int)) "dec" [] lv h0 QR QX → J M h0 0 ls []) : Ct K l yJ4_dec wJ4_dec lv av h0 QR QX := Ct.start F (by decide +kernel) hn hls body
theorem pl_J4_20_J4 (nm : String) : jPL RJ4 nm 20 14 2 (.int) := ⟨RJ4, TJ4, 3, "java/util/ArrayDeque", rfl, by decide, Or.inl ⟨Or.inl q240, rfl⟩, Or.inl rfl, by decide +kernel⟩
theorem cl_J4_65 : jCL RJ4 65 "java/lang/NullPointerException" := q1925
theorem lk_J4_67 : jLkI RJ4 67 yJ36_init 0 := ⟨rfl, q1933, q1934, ⟨by decide, by decide⟩, jNp_of (by decide +kernel)⟩
abbrev wJ36_init : List Cond := ws_ yJ36_init cJ36_init 1 (none)
theorem ce_J36_init : jCe yJ36_init cJ36_init 1 (none) := ⟨q1935, q116, by decide⟩
theorem st_J36_init {K : JK} {l : Launch} {lv : Nat} {av : List Value} {h0 : JIH} {QR : JQR} {QX : JQX} (F : JF K) {ls : List (Option Value)} (hls : jent av 1 = ls) (hn : (jsl av).length ≤ 1 := by first | exact Nat.le_of_ble_eq_true rfl | (simp [jsl, jcat_v]; done)) (body : ∀ M : JM, JX M K l cJ36_init RJ36 1 (none) "<init>" [] lv h0 QR QX → J M h0 0 ls []) : Ct K l yJ36_init wJ36_init lv av h0 QR QX := Ct.start F (by decide +kernel) hn hls body
theorem lk_J4_71_J4 : jLkV RJ4 71 yJ4_grow RJ4 1 := ⟨q1944, q1946, qs13, ⟨by decide, by decide⟩, jNp_of (by decide +kernel)⟩
abbrev wJ4_grow : List Cond := ws_ yJ4_grow cJ4_grow 9 (none)
theorem ce_J4_grow : jCe yJ4_grow cJ4_grow 9 (none) := ⟨q1947, q76, by decide⟩
theorem st_J4_grow {K : JK} {l : Launch} {lv : Nat} {av : List Value} {h0 : JIH} {QR : JQR} {QX : JQX} (F : JF K) {ls : List (Option Value)} (hls : jent av 9 = ls) (hn : (jsl av).length ≤ 9 := by first | exact Nat.le_of_ble_eq_true rfl | (simp [jsl, jcat_v]; done)) (body : ∀ M : JM, JX M K l cJ4_grow RJ4 9 (none) "grow" [] lv h0 QR QX → J M h0 0 ls []) : Ct K l yJ4_grow wJ4_grow lv av h0 QR QX := Ct.start F (by decide +kernel) hn hls body
theorem lk_J4_10_J4 : jLkV RJ4 10 yJ4_newCapacity RJ4 2 := ⟨q1949, q1951, qs14, ⟨by decide, by decide⟩, jNp_of (by decide +kernel)⟩
abbrev wJ4_newCapacity : List Cond := ws_ yJ4_newCapacity cJ4_newCapacity 5 ((some .int))
theorem ce_J4_newCapacity : jCe yJ4_newCapacity cJ4_newCapacity 5 ((some .int)) := ⟨q1952, q76, by decide⟩
theorem st_J4_newCapacity {K : JK} {l : Launch} {lv : Nat} {av : List Value} {h0 : JIH} {QR : JQR} {QX : JQX} (F : JF K) {ls : List (Option Value)} (hls : jent av 5 = ls) (hn : (jsl av).length ≤ 5 := by first | exact Nat.le_of_ble_eq_true rfl | (simp [jsl, jcat_v]; done)) (body : ∀ M : JM, JX M K l cJ4_newCapacity RJ4 5 ((some .int)) "newCapacity" [] lv h0 QR QX → J M h0 0 ls []) : Ct K l yJ4_newCapacity wJ4_newCapacity lv av h0 QR QX := Ct.start F (by decide +kernel) hn hls body
theorem lk_J4_14 : jLkS RJ4 14 yJ24_copyOf_2 2 := ⟨q1954, q1955, ⟨by decide, by decide⟩, jNp_of (by decide +kernel)⟩
abbrev wJ24_copyOf_2 : List Cond := ws_ yJ24_copyOf_2 cJ24_copyOf_2 2 ((Option.some (.array (.object "java/lang/Object"))))
theorem ce_J24_copyOf_2 : jCe yJ24_copyOf_2 cJ24_copyOf_2 2 ((Option.some (.array (.object "java/lang/Object")))) := ⟨q1956, q99, by decide⟩
theorem st_J24_copyOf_2 {K : JK} {l : Launch} {lv : Nat} {av : List Value} {h0 : JIH} {QR : JQR} {QX : JQX} (F : JF K) {ls : List (Option Value)} (hls : jent av 2 = ls) (hn : (jsl av).length ≤ 2 := by first | exact Nat.le_of_ble_eq_true rfl | (simp [jsl, jcat_v]; done)) (body : ∀ M : JM, JX M K l cJ24_copyOf_2 RJ24 2 ((Option.some (.array (.object "java/lang/Object")))) "copyOf" [] lv h0 QR QX → J M h0 0 ls []) : Ct K l yJ24_copyOf_2 wJ24_copyOf_2 lv av h0 QR QX := Ct.start F (by decide +kernel) hn hls body
theorem lk_J4_103 : jLkS RJ4 103 yJ4_elementAt 2 := ⟨q1971, q1972, ⟨by decide, by decide⟩, jNp_of (by decide +kernel)⟩
abbrev wJ4_elementAt : List Cond := ws_ yJ4_elementAt cJ4_elementAt 2 ((Option.some (.object "java/lang/Object")))
theorem ce_J4_elementAt : jCe yJ4_elementAt cJ4_elementAt 2 ((Option.some (.object "java/lang/Object"))) := ⟨q1973, q76, by decide⟩
theorem st_J4_elementAt {K : JK} {l : Launch} {lv : Nat} {av : List Value} {h0 : JIH} {QR : JQR} {QX : JQX} (F : JF K) {ls : List (Option Value)} (hls : jent av 2 = ls) (hn : (jsl av).length ≤ 2 := by first | exact Nat.le_of_ble_eq_true rfl | (simp [jsl, jcat_v]; done)) (body : ∀ M : JM, JX M K l cJ4_elementAt RJ4 2 ((Option.some (.object "java/lang/Object"))) "elementAt" [] lv h0 QR QX → J M h0 0 ls []) : Ct K l yJ4_elementAt wJ4_elementAt lv av h0 QR QX := Ct.start F (by decide +kernel) hn hls body
theorem cl_J4_131 : jCL RJ4 131 "java/util/ArrayDeque$DeqIterator" := q2147
theorem lk_J4_133 : jLkI RJ4 133 yJ38_init 1 := ⟨rfl, q2149, q2150, ⟨by decide, by decide⟩, jNp_of (by decide +kernel)⟩
abbrev wJ38_init : List Cond := ws_ yJ38_init cJ38_init 2 (none)
theorem ce_J38_init : jCe yJ38_init cJ38_init 2 (none) := ⟨q2151, q119, by decide⟩
theorem st_J38_init {K : JK} {l : Launch} {lv : Nat} {av : List Value} {h0 : JIH} {QR : JQR} {QX : JQX} (F : JF K) {ls : List (Option Value)} (hls : jent av 2 = ls) (hn : (jsl av).length ≤ 2 := by first | exact Nat.le_of_ble_eq_true rfl | (simp [jsl, jcat_v]; done)) (body : ∀ M : JM, JX M K l cJ38_init RJ38 2 (none) "<init>" [] lv h0 QR QX → J M h0 0 ls []) : Ct K l yJ38_init wJ38_init lv av h0 QR QX := Ct.start F (by decide +kernel) hn hls body
theorem lk_J4_181 : jLkS RJ4 181 yJ4_circularClear 3 := ⟨q2634, q2635, ⟨by decide, by decide⟩, jNp_of (by decide +kernel)⟩
abbrev wJ4_circularClear : List Cond := ws_ yJ4_circularClear cJ4_circularClear 4 (none)
theorem ce_J4_circularClear : jCe yJ4_circularClear cJ4_circularClear 4 (none) := ⟨q2636, q76, by decide⟩
theorem st_J4_circularClear {K : JK} {l : Launch} {lv : Nat} {av : List Value} {h0 : JIH} {QR : JQR} {QX : JQX} (F : JF K) {ls : List (Option Value)} (hls : jent av 4 = ls) (hn : (jsl av).length ≤ 4 := by first | exact Nat.le_of_ble_eq_true rfl | (simp [jsl, jcat_v]; done)) (body : ∀ M : JM, JX M K l cJ4_circularClear RJ4 4 (none) "circularClear" [] lv h0 QR QX → J M h0 0 ls []) : Ct K l yJ4_circularClear wJ4_circularClear lv av h0 QR QX := Ct.start F (by decide +kernel) hn hls body
theorem lk_J5_1 : jLkI RJ5 1 yJ3_init 0 := ⟨rfl, q400, q231, ⟨by decide, by decide⟩, jNp_of (by decide +kernel)⟩
theorem fl_J5_7_J7 : jFL RJ5 7 16 0 := ⟨RJ7, TJ7, 4, "java/util/AbstractList", rfl, by decide, Or.inl q405, Or.inl rfl⟩
theorem pl_J5_7_J7 (nm : String) : jPL RJ5 nm 7 16 0 (.int) := ⟨RJ7, TJ7, 4, "java/util/AbstractList", rfl, by decide, Or.inl ⟨Or.inl q405, rfl⟩, Or.inl rfl, by decide +kernel⟩
theorem lk_J5_47_J7 : jLkU RJ5 47 ⟨"java/util/AbstractList", "listIterator", "(I)Ljava/util/ListIterator;"⟩ yJ7_listIterator RJ7 1 := ⟨"java/util/AbstractList", q2395, q2397, Or.inl q2432, ⟨by decide, by decide⟩, q2398, q2399, jNp_of (by decide +kernel)⟩
abbrev wJ7_listIterator : List Cond := ws_ yJ7_listIterator cJ7_listIterator 2 ((Option.some (.object "java/util/ListIterator")))
theorem ce_J7_listIterator : jCe yJ7_listIterator cJ7_listIterator 2 ((Option.some (.object "java/util/ListIterator"))) := ⟨q2400, q80, by decide⟩
theorem st_J7_listIterator {K : JK} {l : Launch} {lv : Nat} {av : List Value} {h0 : JIH} {QR : JQR} {QX : JQX} (F : JF K) {ls : List (Option Value)} (hls : jent av 2 = ls) (hn : (jsl av).length ≤ 2 := by first | exact Nat.le_of_ble_eq_true rfl | (simp [jsl, jcat_v]; done)) (body : ∀ M : JM, JX M K l cJ7_listIterator RJ7 2 ((Option.some (.object "java/util/ListIterator"))) "listIterator" [] lv h0 QR QX → J M h0 0 ls []) : Ct K l yJ7_listIterator wJ7_listIterator lv av h0 QR QX := Ct.start F (by decide +kernel) hn hls body
theorem lk_J6_1 : jLkI RJ6 1 yJ5_init 0 := ⟨rfl, q397, q398, ⟨by decide, by decide⟩, jNp_of (by decide +kernel)⟩
abbrev wJ5_init : List Cond := ws_ yJ5_init cJ5_init 1 (none)
theorem ce_J5_init : jCe yJ5_init cJ5_init 1 (none) := ⟨q399, q78, by decide⟩
theorem st_J5_init {K : JK} {l : Launch} {lv : Nat} {av : List Value} {h0 : JIH} {QR : JQR} {QX : JQX} (F : JF K) {ls : List (Option Value)} (hls : jent av 1 = ls) (hn : (jsl av).length ≤ 1 := by first | exact Nat.le_of_ble_eq_true rfl | (simp [jsl, jcat_v]; done)) (body : ∀ M : JM, JX M K l cJ5_init RJ5 1 (none) "<init>" [] lv h0 QR QX → J M h0 0 ls []) : Ct K l yJ5_init wJ5_init lv av h0 QR QX := Ct.start F (by decide +kernel) hn hls body
theorem lk_J6_65_J7 : jLkU RJ6 65 ⟨"java/util/AbstractSequentialList", "listIterator", "()Ljava/util/ListIterator;"⟩ yJ5_listIterator RJ7 0 := ⟨"java/util/AbstractList", q2389, q2390, Or.inl q2391, ⟨by decide, by decide⟩, q2392, q2393, jNp_of (by decide +kernel)⟩
abbrev wJ5_listIterator : List Cond := ws_ yJ5_listIterator cJ5_listIterator 1 ((Option.some (.object "java/util/ListIterator")))
theorem ce_J5_listIterator : jCe yJ5_listIterator cJ5_listIterator 1 ((Option.some (.object "java/util/ListIterator"))) := ⟨q2394, q78, by decide⟩
theorem st_J5_listIterator {K : JK} {l : Launch} {lv : Nat} {av : List Value} {h0 : JIH} {QR : JQR} {QX : JQX} (F : JF K) {ls : List (Option Value)} (hls : jent av 1 = ls) (hn : (jsl av).length ≤ 1 := by first | exact Nat.le_of_ble_eq_true rfl | (simp [jsl, jcat_v]; done)) (body : ∀ M : JM, JX M K l cJ5_listIterator RJ5 1 ((Option.some (.object "java/util/ListIterator"))) "listIterator" [] lv h0 QR QX → J M h0 0 ls []) : Ct K l yJ5_listIterator wJ5_listIterator lv av h0 QR QX := Ct.start F (by decide +kernel) hn hls body
theorem lk_J7_1 : jLkI RJ7 1 yJ6_init 0 := ⟨rfl, q394, q395, ⟨by decide, by decide⟩, jNp_of (by decide +kernel)⟩
abbrev wJ6_init : List Cond := ws_ yJ6_init cJ6_init 1 (none)
theorem ce_J6_init : jCe yJ6_init cJ6_init 1 (none) := ⟨q396, q79, by decide⟩
theorem st_J6_init {K : JK} {l : Launch} {lv : Nat} {av : List Value} {h0 : JIH} {QR : JQR} {QX : JQX} (F : JF K) {ls : List (Option Value)} (hls : jent av 1 = ls) (hn : (jsl av).length ≤ 1 := by first | exact Nat.le_of_ble_eq_true rfl | (simp [jsl, jcat_v]; done)) (body : ∀ M : JM, JX M K l cJ6_init RJ6 1 (none) "<init>" [] lv h0 QR QX → J M h0 0 ls []) : Ct K l yJ6_init wJ6_init lv av h0 QR QX := Ct.start F (by decide +kernel) hn hls body
theorem fl_J7_7_J7 : jFL RJ7 7 16 1 := ⟨RJ7, TJ7, 4, "java/util/LinkedList", rfl, by decide, Or.inl q401, Or.inl rfl⟩
theorem pl_J7_7_J7 (nm : String) : jPL RJ7 nm 7 16 1 (.int) := ⟨RJ7, TJ7, 4, "java/util/LinkedList", rfl, by decide, Or.inl ⟨Or.inl q401, rfl⟩, Or.inl rfl, by decide +kernel⟩
theorem lk_J7_90_J7 : jLkV RJ7 90 yJ7_checkElementIndex RJ7 1 := ⟨q646, q648, qs2, ⟨by decide, by decide⟩, jNp_of (by decide +kernel)⟩
abbrev wJ7_checkElementIndex : List Cond := ws_ yJ7_checkElementIndex cJ7_checkElementIndex 2 (none)
theorem ce_J7_checkElementIndex : jCe yJ7_checkElementIndex cJ7_checkElementIndex 2 (none) := ⟨q649, q80, by decide⟩
theorem st_J7_checkElementIndex {K : JK} {l : Launch} {lv : Nat} {av : List Value} {h0 : JIH} {QR : JQR} {QX : JQX} (F : JF K) {ls : List (Option Value)} (hls : jent av 2 = ls) (hn : (jsl av).length ≤ 2 := by first | exact Nat.le_of_ble_eq_true rfl | (simp [jsl, jcat_v]; done)) (body : ∀ M : JM, JX M K l cJ7_checkElementIndex RJ7 2 (none) "checkElementIndex" [] lv h0 QR QX → J M h0 0 ls []) : Ct K l yJ7_checkElementIndex wJ7_checkElementIndex lv av h0 QR QX := Ct.start F (by decide +kernel) hn hls body
theorem lk_J7_86_J7 : jLkV RJ7 86 yJ7_node RJ7 1 := ⟨q1003, q1004, q1005, ⟨by decide, by decide⟩, jNp_of (by decide +kernel)⟩
abbrev wJ7_node : List Cond := ws_ yJ7_node cJ7_node 4 ((Option.some (.object "java/util/LinkedList$Node")))
theorem ce_J7_node : jCe yJ7_node cJ7_node 4 ((Option.some (.object "java/util/LinkedList$Node"))) := ⟨q1006, q80, by decide⟩
theorem st_J7_node {K : JK} {l : Launch} {lv : Nat} {av : List Value} {h0 : JIH} {QR : JQR} {QX : JQX} (F : JF K) {ls : List (Option Value)} (hls : jent av 4 = ls) (hn : (jsl av).length ≤ 4 := by first | exact Nat.le_of_ble_eq_true rfl | (simp [jsl, jcat_v]; done)) (body : ∀ M : JM, JX M K l cJ7_node RJ7 4 ((Option.some (.object "java/util/LinkedList$Node"))) "node" [] lv h0 QR QX → J M h0 0 ls []) : Ct K l yJ7_node wJ7_node lv av h0 QR QX := Ct.start F (by decide +kernel) hn hls body
theorem fl_J7_39_J39 : jFL RJ7 39 17 0 := ⟨RJ39, TJ39, 3, "java/util/LinkedList$Node", rfl, by decide, Or.inl q2355, Or.inl rfl⟩
theorem lk_J7_115_J7 : jLkV RJ7 115 yJ7_isElementIndex RJ7 1 := ⟨q650, q652, qs3, ⟨by decide, by decide⟩, jNp_of (by decide +kernel)⟩
abbrev wJ7_isElementIndex : List Cond := ws_ yJ7_isElementIndex cJ7_isElementIndex 2 ((some .boolean))
theorem ce_J7_isElementIndex : jCe yJ7_isElementIndex cJ7_isElementIndex 2 ((some .boolean)) := ⟨q653, q80, by decide⟩
theorem st_J7_isElementIndex {K : JK} {l : Launch} {lv : Nat} {av : List Value} {h0 : JIH} {QR : JQR} {QX : JQX} (F : JF K) {ls : List (Option Value)} (hls : jent av 2 = ls) (hn : (jsl av).length ≤ 2 := by first | exact Nat.le_of_ble_eq_true rfl | (simp [jsl, jcat_v]; done)) (body : ∀ M : JM, JX M K l cJ7_isElementIndex RJ7 2 ((some .boolean)) "isElementIndex" [] lv h0 QR QX → J M h0 0 ls []) : Ct K l yJ7_isElementIndex wJ7_isElementIndex lv av h0 QR QX := Ct.start F (by decide +kernel) hn hls body
theorem cl_J7_119 : jCL RJ7 119 "java/lang/IndexOutOfBoundsException" := q654
theorem lk_J7_121_J7 : jLkV RJ7 121 yJ7_outOfBoundsMsg RJ7 1 := ⟨q715, q717, qs6, ⟨by decide, by decide⟩, jNp_of (by decide +kernel)⟩
abbrev wJ7_outOfBoundsMsg : List Cond := ws_ yJ7_outOfBoundsMsg cJ7_outOfBoundsMsg 2 ((Option.some (.object "java/lang/String")))
theorem ce_J7_outOfBoundsMsg : jCe yJ7_outOfBoundsMsg cJ7_outOfBoundsMsg 2 ((Option.some (.object "java/lang/String"))) := ⟨q718, q80, by decide⟩
theorem st_J7_outOfBoundsMsg {K : JK} {l : Launch} {lv : Nat} {av : List Value} {h0 : JIH} {QR : JQR} {QX : JQX} (F : JF K) {ls : List (Option Value)} (hls : jent av 2 = ls) (hn : (jsl av).length ≤ 2 := by first | exact Nat.le_of_ble_eq_true rfl | (simp [jsl, jcat_v]; done)) (body : ∀ M : JM, JX M K l cJ7_outOfBoundsMsg RJ7 2 ((Option.some (.object "java/lang/String"))) "outOfBoundsMsg" [] lv h0 QR QX → J M h0 0 ls []) : Ct K l yJ7_outOfBoundsMsg wJ7_outOfBoundsMsg lv av h0 QR QX := Ct.start F (by decide +kernel) hn hls body
theorem lk_J7_125 : jLkI RJ7 125 yJ17_init 1 := ⟨rfl, q989, q990, ⟨by decide, by decide⟩, jNp_of (by decide +kernel)⟩
abbrev wJ17_init : List Cond := ws_ yJ17_init cJ17_init 2 (none)
theorem ce_J17_init : jCe yJ17_init cJ17_init 2 (none) := ⟨q991, q92, by decide⟩
theorem st_J17_init {K : JK} {l : Launch} {lv : Nat} {av : List Value} {h0 : JIH} {QR : JQR} {QX : JQX} (F : JF K) {ls : List (Option Value)} (hls : jent av 2 = ls) (hn : (jsl av).length ≤ 2 := by first | exact Nat.le_of_ble_eq_true rfl | (simp [jsl, jcat_v]; done)) (body : ∀ M : JM, JX M K l cJ17_init RJ17 2 (none) "<init>" [] lv h0 QR QX → J M h0 0 ls []) : Ct K l yJ17_init wJ17_init lv av h0 QR QX := Ct.start F (by decide +kernel) hn hls body
theorem cl_J7_97 : jCL RJ7 97 "java/lang/StringBuilder" := q719
theorem fl_J7_18_J7 : jFL RJ7 18 16 2 := ⟨RJ7, TJ7, 4, "java/util/LinkedList", rfl, by decide, Or.inl q403, Or.inl rfl⟩
theorem fl_J7_36_J39 : jFL RJ7 36 17 1 := ⟨RJ39, TJ39, 3, "java/util/LinkedList$Node", rfl, by decide, Or.inl q2358, Or.inl rfl⟩
theorem fl_J7_27_J7 : jFL RJ7 27 16 3 := ⟨RJ7, TJ7, 4, "java/util/LinkedList", rfl, by decide, Or.inl q404, Or.inl rfl⟩
theorem fl_J7_30_J39 : jFL RJ7 30 17 2 := ⟨RJ39, TJ39, 3, "java/util/LinkedList$Node", rfl, by decide, Or.inl q2360, Or.inl rfl⟩
theorem lk_J7_64_J7 : jLkV RJ7 64 yJ7_unlink RJ7 1 := ⟨q1262, q1263, q1264, ⟨by decide, by decide⟩, jNp_of (by decide +kernel)⟩
abbrev wJ7_unlink : List Cond := ws_ yJ7_unlink cJ7_unlink 5 ((Option.some (.object "java/lang/Object")))
theorem ce_J7_unlink : jCe yJ7_unlink cJ7_unlink 5 ((Option.some (.object "java/lang/Object"))) := ⟨q1265, q80, by decide⟩
theorem st_J7_unlink {K : JK} {l : Launch} {lv : Nat} {av : List Value} {h0 : JIH} {QR : JQR} {QX : JQX} (F : JF K) {ls : List (Option Value)} (hls : jent av 5 = ls) (hn : (jsl av).length ≤ 5 := by first | exact Nat.le_of_ble_eq_true rfl | (simp [jsl, jcat_v]; done)) (body : ∀ M : JM, JX M K l cJ7_unlink RJ7 5 ((Option.some (.object "java/lang/Object"))) "unlink" [] lv h0 QR QX → J M h0 0 ls []) : Ct K l yJ7_unlink wJ7_unlink lv av h0 QR QX := Ct.start F (by decide +kernel) hn hls body
theorem pl_J7_18_J7 (nm : String) : jPL RJ7 nm 18 16 2 (.object "java/util/LinkedList$Node") := ⟨RJ7, TJ7, 4, "java/util/LinkedList", rfl, by decide, Or.inl ⟨Or.inl q403, rfl⟩, Or.inl rfl, by decide +kernel⟩
theorem pl_J7_36_J39 (nm : String) : jPL RJ7 nm 36 17 1 (.object "java/util/LinkedList$Node") := ⟨RJ39, TJ39, 3, "java/util/LinkedList$Node", rfl, by decide, Or.inl ⟨Or.inl q2358, rfl⟩, Or.inl rfl, by decide +kernel⟩
theorem pl_J7_30_J39 (nm : String) : jPL RJ7 nm 30 17 2 (.object "java/util/LinkedList$Node") := ⟨RJ39, TJ39, 3, "java/util/LinkedList$Node", rfl, by decide, Or.inl ⟨Or.inl q2360, rfl⟩, Or.inl rfl, by decide +kernel⟩
theorem pl_J7_27_J7 (nm : String) : jPL RJ7 nm 27 16 3 (.object "java/util/LinkedList$Node") := ⟨RJ7, TJ7, 4, "java/util/LinkedList", rfl, by decide, Or.inl ⟨Or.inl q404, rfl⟩, Or.inl rfl, by decide +kernel⟩
theorem pl_J7_39_J39 (nm : String) : jPL RJ7 nm 39 17 0 (.object "java/lang/Object") := ⟨RJ39, TJ39, 3, "java/util/LinkedList$Node", rfl, by decide, Or.inl ⟨Or.inl q2355, rfl⟩, Or.inl rfl, by decide +kernel⟩
theorem fl_J7_33_J7 : jFL RJ7 33 16 0 := ⟨RJ7, TJ7, 4, "java/util/LinkedList", rfl, by decide, Or.inl q409, Or.inr q407⟩
theorem pl_J7_33_J7 (nm : String) : jPL RJ7 nm 33 16 0 (.int) := ⟨RJ7, TJ7, 4, "java/util/LinkedList", rfl, by decide, Or.inl ⟨Or.inl q409, rfl⟩, Or.inr q407, by decide +kernel⟩
theorem lk_J7_57_J7 : jLkV RJ7 57 yJ7_linkLast RJ7 1 := ⟨q2343, q2344, q2345, ⟨by decide, by decide⟩, jNp_of (by decide +kernel)⟩
abbrev wJ7_linkLast : List Cond := ws_ yJ7_linkLast cJ7_linkLast 4 (none)
theorem ce_J7_linkLast : jCe yJ7_linkLast cJ7_linkLast 4 (none) := ⟨q2346, q80, by decide⟩
theorem st_J7_linkLast {K : JK} {l : Launch} {lv : Nat} {av : List Value} {h0 : JIH} {QR : JQR} {QX : JQX} (F : JF K) {ls : List (Option Value)} (hls : jent av 4 = ls) (hn : (jsl av).length ≤ 4 := by first | exact Nat.le_of_ble_eq_true rfl | (simp [jsl, jcat_v]; done)) (body : ∀ M : JM, JX M K l cJ7_linkLast RJ7 4 (none) "linkLast" [] lv h0 QR QX → J M h0 0 ls []) : Ct K l yJ7_linkLast wJ7_linkLast lv av h0 QR QX := Ct.start F (by decide +kernel) hn hls body
theorem cl_J7_22 : jCL RJ7 22 "java/util/LinkedList$Node" := q2347
theorem lk_J7_24 : jLkI RJ7 24 yJ39_init 3 := ⟨rfl, q2349, q2350, ⟨by decide, by decide⟩, jNp_of (by decide +kernel)⟩
abbrev wJ39_init : List Cond := ws_ yJ39_init cJ39_init 4 (none)
theorem ce_J39_init : jCe yJ39_init cJ39_init 4 (none) := ⟨q2351, q123, by decide⟩
theorem st_J39_init {K : JK} {l : Launch} {lv : Nat} {av : List Value} {h0 : JIH} {QR : JQR} {QX : JQX} (F : JF K) {ls : List (Option Value)} (hls : jent av 4 = ls) (hn : (jsl av).length ≤ 4 := by first | exact Nat.le_of_ble_eq_true rfl | (simp [jsl, jcat_v]; done)) (body : ∀ M : JM, JX M K l cJ39_init RJ39 4 (none) "<init>" [] lv h0 QR QX → J M h0 0 ls []) : Ct K l yJ39_init wJ39_init lv av h0 QR QX := Ct.start F (by decide +kernel) hn hls body
theorem lk_J7_76_J7 : jLkV RJ7 76 yJ7_checkPositionIndex RJ7 1 := ⟨q2401, q2403, qs36, ⟨by decide, by decide⟩, jNp_of (by decide +kernel)⟩
abbrev wJ7_checkPositionIndex : List Cond := ws_ yJ7_checkPositionIndex cJ7_checkPositionIndex 2 (none)
theorem ce_J7_checkPositionIndex : jCe yJ7_checkPositionIndex cJ7_checkPositionIndex 2 (none) := ⟨q2404, q80, by decide⟩
theorem st_J7_checkPositionIndex {K : JK} {l : Launch} {lv : Nat} {av : List Value} {h0 : JIH} {QR : JQR} {QX : JQX} (F : JF K) {ls : List (Option Value)} (hls : jent av 2 = ls) (hn : (jsl av).length ≤ 2 := by first | exact Nat.le_of_ble_eq_true rfl | (simp [jsl, jcat_v]; done)) (body : ∀ M : JM, JX M K l cJ7_checkPositionIndex RJ7 2 (none) "checkPositionIndex" [] lv h0 QR QX → J M h0 0 ls []) : Ct K l yJ7_checkPositionIndex wJ7_checkPositionIndex lv av h0 QR QX := Ct.start F (by decide +kernel) hn hls body
theorem cl_J7_150 : jCL RJ7 150 "java/util/LinkedList$ListItr" := q2409
theorem lk_J7_152 : jLkI RJ7 152 yJ41_init 2 := ⟨rfl, q2411, q2412, ⟨by decide, by decide⟩, jNp_of (by decide +kernel)⟩
abbrev wJ41_init : List Cond := ws_ yJ41_init cJ41_init 3 (none)
theorem ce_J41_init : jCe yJ41_init cJ41_init 3 (none) := ⟨q2413, q126, by decide⟩
theorem st_J41_init {K : JK} {l : Launch} {lv : Nat} {av : List Value} {h0 : JIH} {QR : JQR} {QX : JQX} (F : JF K) {ls : List (Option Value)} (hls : jent av 3 = ls) (hn : (jsl av).length ≤ 3 := by first | exact Nat.le_of_ble_eq_true rfl | (simp [jsl, jcat_v]; done)) (body : ∀ M : JM, JX M K l cJ41_init RJ41 3 (none) "<init>" [] lv h0 QR QX → J M h0 0 ls []) : Ct K l yJ41_init wJ41_init lv av h0 QR QX := Ct.start F (by decide +kernel) hn hls body
theorem lk_J7_128_J7 : jLkV RJ7 128 yJ7_isPositionIndex RJ7 1 := ⟨q2405, q2407, qs37, ⟨by decide, by decide⟩, jNp_of (by decide +kernel)⟩
abbrev wJ7_isPositionIndex : List Cond := ws_ yJ7_isPositionIndex cJ7_isPositionIndex 2 ((some .boolean))
theorem ce_J7_isPositionIndex : jCe yJ7_isPositionIndex cJ7_isPositionIndex 2 ((some .boolean)) := ⟨q2408, q80, by decide⟩
theorem st_J7_isPositionIndex {K : JK} {l : Launch} {lv : Nat} {av : List Value} {h0 : JIH} {QR : JQR} {QX : JQX} (F : JF K) {ls : List (Option Value)} (hls : jent av 2 = ls) (hn : (jsl av).length ≤ 2 := by first | exact Nat.le_of_ble_eq_true rfl | (simp [jsl, jcat_v]; done)) (body : ∀ M : JM, JX M K l cJ7_isPositionIndex RJ7 2 ((some .boolean)) "isPositionIndex" [] lv h0 QR QX → J M h0 0 ls []) : Ct K l yJ7_isPositionIndex wJ7_isPositionIndex lv av h0 QR QX := Ct.start F (by decide +kernel) hn hls body
theorem lk_J9_1 : jLkI RJ9 1 yJ3_init 0 := ⟨rfl, q524, q231, ⟨by decide, by decide⟩, jNp_of (by decide +kernel)⟩
theorem fl_J10_1_J10 : jFL RJ10 1 19 1 := ⟨RJ10, TJ10, 2, "java/util/LinkedHashMap$LinkedEntrySet", rfl, by decide, Or.inl q526, Or.inl rfl⟩
theorem pl_J10_1_J10 : jPL RJ10 "<init>" 1 19 1 (.object "java/util/LinkedHashMap") := ⟨RJ10, TJ10, 2, "java/util/LinkedHashMap$LinkedEntrySet", rfl, by decide, Or.inr ⟨q526, rfl, rfl, rfl⟩, Or.inl rfl, by decide +kernel⟩
theorem lk_J10_7 : jLkI RJ10 7 yJ9_init 0 := ⟨rfl, q521, q522, ⟨by decide, by decide⟩, jNp_of (by decide +kernel)⟩
abbrev wJ9_init : List Cond := ws_ yJ9_init cJ9_init 1 (none)
theorem ce_J9_init : jCe yJ9_init cJ9_init 1 (none) := ⟨q523, q84, by decide⟩
theorem st_J9_init {K : JK} {l : Launch} {lv : Nat} {av : List Value} {h0 : JIH} {QR : JQR} {QX : JQX} (F : JF K) {ls : List (Option Value)} (hls : jent av 1 = ls) (hn : (jsl av).length ≤ 1 := by first | exact Nat.le_of_ble_eq_true rfl | (simp [jsl, jcat_v]; done)) (body : ∀ M : JM, JX M K l cJ9_init RJ9 1 (none) "<init>" [] lv h0 QR QX → J M h0 0 ls []) : Ct K l yJ9_init wJ9_init lv av h0 QR QX := Ct.start F (by decide +kernel) hn hls body
theorem fl_J10_13_J10 : jFL RJ10 13 19 0 := ⟨RJ10, TJ10, 2, "java/util/LinkedHashMap$LinkedEntrySet", rfl, by decide, Or.inl q525, Or.inl rfl⟩
theorem pl_J10_13_J10 : jPL RJ10 "<init>" 13 19 0 (.boolean) := ⟨RJ10, TJ10, 2, "java/util/LinkedHashMap$LinkedEntrySet", rfl, by decide, Or.inr ⟨q525, rfl, rfl, rfl⟩, Or.inl rfl, by decide +kernel⟩
theorem cl_J10_26 : jCL RJ10 26 "java/util/LinkedHashMap$LinkedEntryIterator" := q543
theorem lk_J10_28 : jLkI RJ10 28 yJ12_init 2 := ⟨rfl, q545, q546, ⟨by decide, by decide⟩, jNp_of (by decide +kernel)⟩
abbrev wJ12_init : List Cond := ws_ yJ12_init cJ12_init 3 (none)
theorem ce_J12_init : jCe yJ12_init cJ12_init 3 (none) := ⟨q547, q87, by decide⟩
theorem st_J12_init {K : JK} {l : Launch} {lv : Nat} {av : List Value} {h0 : JIH} {QR : JQR} {QX : JQX} (F : JF K) {ls : List (Option Value)} (hls : jent av 3 = ls) (hn : (jsl av).length ≤ 3 := by first | exact Nat.le_of_ble_eq_true rfl | (simp [jsl, jcat_v]; done)) (body : ∀ M : JM, JX M K l cJ12_init RJ12 3 (none) "<init>" [] lv h0 QR QX → J M h0 0 ls []) : Ct K l yJ12_init wJ12_init lv av h0 QR QX := Ct.start F (by decide +kernel) hn hls body
theorem fl_J11_1_J12 : jFL RJ11 1 22 4 := ⟨RJ12, TJ12, 5, "java/util/LinkedHashMap$LinkedHashIterator", rfl, by decide, Or.inl q556, Or.inl rfl⟩
theorem pl_J11_1_J12 : jPL RJ11 "<init>" 1 22 4 (.object "java/util/LinkedHashMap") := ⟨RJ12, TJ12, 5, "java/util/LinkedHashMap$LinkedHashIterator", rfl, by decide, Or.inr ⟨q556, rfl, rfl, rfl⟩, Or.inl rfl, by decide +kernel⟩
theorem fl_J11_1_J13 : jFL RJ11 1 23 4 := ⟨RJ13, TJ13, 5, "java/util/LinkedHashMap$LinkedHashIterator", rfl, by decide, Or.inl q556, Or.inl rfl⟩
theorem pl_J11_1_J13 : jPL RJ11 "<init>" 1 23 4 (.object "java/util/LinkedHashMap") := ⟨RJ13, TJ13, 5, "java/util/LinkedHashMap$LinkedHashIterator", rfl, by decide, Or.inr ⟨q556, rfl, rfl, rfl⟩, Or.inl rfl, by decide +kernel⟩
theorem fl_J11_1_J43 : jFL RJ11 1 24 4 := ⟨RJ43, TJ43, 5, "java/util/LinkedHashMap$LinkedHashIterator", rfl, by decide, Or.inl q556, Or.inl rfl⟩
theorem pl_J11_1_J43 : jPL RJ11 "<init>" 1 24 4 (.object "java/util/LinkedHashMap") := ⟨RJ43, TJ43, 5, "java/util/LinkedHashMap$LinkedHashIterator", rfl, by decide, Or.inr ⟨q556, rfl, rfl, rfl⟩, Or.inl rfl, by decide +kernel⟩
theorem lk_J11_7 : Cond.methodLink RJ11 7 objectInit ∈ lw_all := q551
theorem fl_J11_13_J12 : jFL RJ11 13 22 3 := ⟨RJ12, TJ12, 5, "java/util/LinkedHashMap$LinkedHashIterator", rfl, by decide, Or.inl q555, Or.inl rfl⟩
theorem pl_J11_13_J12 (nm : String) : jPL RJ11 nm 13 22 3 (.boolean) := ⟨RJ12, TJ12, 5, "java/util/LinkedHashMap$LinkedHashIterator", rfl, by decide, Or.inl ⟨Or.inl q555, rfl⟩, Or.inl rfl, by decide +kernel⟩
theorem fl_J11_13_J13 : jFL RJ11 13 23 3 := ⟨RJ13, TJ13, 5, "java/util/LinkedHashMap$LinkedHashIterator", rfl, by decide, Or.inl q555, Or.inl rfl⟩
theorem pl_J11_13_J13 (nm : String) : jPL RJ11 nm 13 23 3 (.boolean) := ⟨RJ13, TJ13, 5, "java/util/LinkedHashMap$LinkedHashIterator", rfl, by decide, Or.inl ⟨Or.inl q555, rfl⟩, Or.inl rfl, by decide +kernel⟩
theorem fl_J11_13_J43 : jFL RJ11 13 24 3 := ⟨RJ43, TJ43, 5, "java/util/LinkedHashMap$LinkedHashIterator", rfl, by decide, Or.inl q555, Or.inl rfl⟩
theorem pl_J11_13_J43 (nm : String) : jPL RJ11 nm 13 24 3 (.boolean) := ⟨RJ43, TJ43, 5, "java/util/LinkedHashMap$LinkedHashIterator", rfl, by decide, Or.inl ⟨Or.inl q555, rfl⟩, Or.inl rfl, by decide +kernel⟩
theorem fl_J11_17_J2 : jFL RJ11 17 12 9 := ⟨RJ2, TJ2, 12, "java/util/LinkedHashMap", rfl, by decide, Or.inl q167, Or.inl rfl⟩
theorem fl_J11_23_J2 : jFL RJ11 23 12 8 := ⟨RJ2, TJ2, 12, "java/util/LinkedHashMap", rfl, by decide, Or.inl q166, Or.inl rfl⟩
theorem fl_J11_26_J12 : jFL RJ11 26 22 0 := ⟨RJ12, TJ12, 5, "java/util/LinkedHashMap$LinkedHashIterator", rfl, by decide, Or.inl q552, Or.inl rfl⟩
theorem pl_J11_26_J12 (nm : String) : jPL RJ11 nm 26 22 0 (.object "java/util/LinkedHashMap$Entry") := ⟨RJ12, TJ12, 5, "java/util/LinkedHashMap$LinkedHashIterator", rfl, by decide, Or.inl ⟨Or.inl q552, rfl⟩, Or.inl rfl, by decide +kernel⟩
theorem fl_J11_26_J13 : jFL RJ11 26 23 0 := ⟨RJ13, TJ13, 5, "java/util/LinkedHashMap$LinkedHashIterator", rfl, by decide, Or.inl q552, Or.inl rfl⟩
theorem pl_J11_26_J13 (nm : String) : jPL RJ11 nm 26 23 0 (.object "java/util/LinkedHashMap$Entry") := ⟨RJ13, TJ13, 5, "java/util/LinkedHashMap$LinkedHashIterator", rfl, by decide, Or.inl ⟨Or.inl q552, rfl⟩, Or.inl rfl, by decide +kernel⟩
theorem fl_J11_26_J43 : jFL RJ11 26 24 0 := ⟨RJ43, TJ43, 5, "java/util/LinkedHashMap$LinkedHashIterator", rfl, by decide, Or.inl q552, Or.inl rfl⟩
theorem pl_J11_26_J43 (nm : String) : jPL RJ11 nm 26 24 0 (.object "java/util/LinkedHashMap$Entry") := ⟨RJ43, TJ43, 5, "java/util/LinkedHashMap$LinkedHashIterator", rfl, by decide, Or.inl ⟨Or.inl q552, rfl⟩, Or.inl rfl, by decide +kernel⟩
theorem fl_J11_29_J2 : jFL RJ11 29 12 3 := ⟨RJ2, TJ2, 12, "java/util/LinkedHashMap", rfl, by decide, Or.inl q175, Or.inr q176⟩
theorem fl_J11_33_J12 : jFL RJ11 33 22 2 := ⟨RJ12, TJ12, 5, "java/util/LinkedHashMap$LinkedHashIterator", rfl, by decide, Or.inl q554, Or.inl rfl⟩
theorem pl_J11_33_J12 (nm : String) : jPL RJ11 nm 33 22 2 (.int) := ⟨RJ12, TJ12, 5, "java/util/LinkedHashMap$LinkedHashIterator", rfl, by decide, Or.inl ⟨Or.inl q554, rfl⟩, Or.inl rfl, by decide +kernel⟩
theorem fl_J11_33_J13 : jFL RJ11 33 23 2 := ⟨RJ13, TJ13, 5, "java/util/LinkedHashMap$LinkedHashIterator", rfl, by decide, Or.inl q554, Or.inl rfl⟩
theorem pl_J11_33_J13 (nm : String) : jPL RJ11 nm 33 23 2 (.int) := ⟨RJ13, TJ13, 5, "java/util/LinkedHashMap$LinkedHashIterator", rfl, by decide, Or.inl ⟨Or.inl q554, rfl⟩, Or.inl rfl, by decide +kernel⟩
theorem fl_J11_33_J43 : jFL RJ11 33 24 2 := ⟨RJ43, TJ43, 5, "java/util/LinkedHashMap$LinkedHashIterator", rfl, by decide, Or.inl q554, Or.inl rfl⟩
theorem pl_J11_33_J43 (nm : String) : jPL RJ11 nm 33 24 2 (.int) := ⟨RJ43, TJ43, 5, "java/util/LinkedHashMap$LinkedHashIterator", rfl, by decide, Or.inl ⟨Or.inl q554, rfl⟩, Or.inl rfl, by decide +kernel⟩
theorem fl_J11_36_J12 : jFL RJ11 36 22 1 := ⟨RJ12, TJ12, 5, "java/util/LinkedHashMap$LinkedHashIterator", rfl, by decide, Or.inl q553, Or.inl rfl⟩
theorem pl_J11_36_J12 (nm : String) : jPL RJ11 nm 36 22 1 (.object "java/util/LinkedHashMap$Entry") := ⟨RJ12, TJ12, 5, "java/util/LinkedHashMap$LinkedHashIterator", rfl, by decide, Or.inl ⟨Or.inl q553, rfl⟩, Or.inl rfl, by decide +kernel⟩
theorem fl_J11_36_J13 : jFL RJ11 36 23 1 := ⟨RJ13, TJ13, 5, "java/util/LinkedHashMap$LinkedHashIterator", rfl, by decide, Or.inl q553, Or.inl rfl⟩
theorem pl_J11_36_J13 (nm : String) : jPL RJ11 nm 36 23 1 (.object "java/util/LinkedHashMap$Entry") := ⟨RJ13, TJ13, 5, "java/util/LinkedHashMap$LinkedHashIterator", rfl, by decide, Or.inl ⟨Or.inl q553, rfl⟩, Or.inl rfl, by decide +kernel⟩
theorem fl_J11_36_J43 : jFL RJ11 36 24 1 := ⟨RJ43, TJ43, 5, "java/util/LinkedHashMap$LinkedHashIterator", rfl, by decide, Or.inl q553, Or.inl rfl⟩
theorem pl_J11_36_J43 (nm : String) : jPL RJ11 nm 36 24 1 (.object "java/util/LinkedHashMap$Entry") := ⟨RJ43, TJ43, 5, "java/util/LinkedHashMap$LinkedHashIterator", rfl, by decide, Or.inl ⟨Or.inl q553, rfl⟩, Or.inl rfl, by decide +kernel⟩
theorem fl_J11_45_J34 : jFL RJ11 45 13 4 := ⟨RJ34, TJ34, 6, "java/util/LinkedHashMap$Entry", rfl, by decide, Or.inl q1580, Or.inl rfl⟩
theorem fl_J11_50_J34 : jFL RJ11 50 13 5 := ⟨RJ34, TJ34, 6, "java/util/LinkedHashMap$Entry", rfl, by decide, Or.inl q1582, Or.inl rfl⟩
theorem fl_J11_56_J34 : jFL RJ11 56 13 0 := ⟨RJ34, TJ34, 6, "java/util/HashMap$Node", rfl, by decide, Or.inl q1586, Or.inl rfl⟩
theorem fl_J11_61_J34 : jFL RJ11 61 13 1 := ⟨RJ34, TJ34, 6, "java/util/HashMap$Node", rfl, by decide, Or.inl q1593, Or.inl rfl⟩
theorem lk_J11_65_J2 : jLkU RJ11 65 ⟨"java/util/LinkedHashMap", "removeNode", "(ILjava/lang/Object;Ljava/lang/Object;ZZ)Ljava/util/HashMap$Node;"⟩ yJ1_removeNode RJ2 5 := ⟨"java/util/HashMap", q1307, q1308, Or.inl q1309, ⟨by decide, by decide⟩, q1310, q1311, jNp_of (by decide +kernel)⟩
theorem lk_J12_1 : jLkI RJ12 1 yJ11_init 2 := ⟨rfl, q548, q549, ⟨by decide, by decide⟩, jNp_of (by decide +kernel)⟩
abbrev wJ11_init : List Cond := ws_ yJ11_init cJ11_init 3 (none)
theorem ce_J11_init : jCe yJ11_init cJ11_init 3 (none) := ⟨q550, q86, by decide⟩
theorem st_J11_init {K : JK} {l : Launch} {lv : Nat} {av : List Value} {h0 : JIH} {QR : JQR} {QX : JQX} (F : JF K) {ls : List (Option Value)} (hls : jent av 3 = ls) (hn : (jsl av).length ≤ 3 := by first | exact Nat.le_of_ble_eq_true rfl | (simp [jsl, jcat_v]; done)) (body : ∀ M : JM, JX M K l cJ11_init RJ11 3 (none) "<init>" [] lv h0 QR QX → J M h0 0 ls []) : Ct K l yJ11_init wJ11_init lv av h0 QR QX := Ct.start F (by decide +kernel) hn hls body
theorem lk_J12_13_J12 : jLkV RJ12 13 yJ12_next_2 RJ12 0 := ⟨q1143, q1144, q1145, ⟨by decide, by decide⟩, jNp_of (by decide +kernel)⟩
abbrev wJ12_next_2 : List Cond := ws_ yJ12_next_2 cJ12_next_2 1 ((Option.some (.object "java/util/Map$Entry")))
theorem ce_J12_next_2 : jCe yJ12_next_2 cJ12_next_2 1 ((Option.some (.object "java/util/Map$Entry"))) := ⟨q1146, q87, by decide⟩
theorem st_J12_next_2 {K : JK} {l : Launch} {lv : Nat} {av : List Value} {h0 : JIH} {QR : JQR} {QX : JQX} (F : JF K) {ls : List (Option Value)} (hls : jent av 1 = ls) (hn : (jsl av).length ≤ 1 := by first | exact Nat.le_of_ble_eq_true rfl | (simp [jsl, jcat_v]; done)) (body : ∀ M : JM, JX M K l cJ12_next_2 RJ12 1 ((Option.some (.object "java/util/Map$Entry"))) "next" [] lv h0 QR QX → J M h0 0 ls []) : Ct K l yJ12_next_2 wJ12_next_2 lv av h0 QR QX := Ct.start F (by decide +kernel) hn hls body
theorem lk_J12_7_J12 : jLkU RJ12 7 ⟨"java/util/LinkedHashMap$LinkedEntryIterator", "nextNode", "()Ljava/util/LinkedHashMap$Entry;"⟩ yJ11_nextNode RJ12 0 := ⟨"java/util/LinkedHashMap$LinkedHashIterator", q1147, q1148, Or.inl q1149, ⟨by decide, by decide⟩, q1150, q1151, jNp_of (by decide +kernel)⟩
abbrev wJ11_nextNode : List Cond := ws_ yJ11_nextNode cJ11_nextNode 2 ((Option.some (.object "java/util/LinkedHashMap$Entry")))
theorem ce_J11_nextNode : jCe yJ11_nextNode cJ11_nextNode 2 ((Option.some (.object "java/util/LinkedHashMap$Entry"))) := ⟨q1152, q86, by decide⟩
theorem st_J11_nextNode {K : JK} {l : Launch} {lv : Nat} {av : List Value} {h0 : JIH} {QR : JQR} {QX : JQX} (F : JF K) {ls : List (Option Value)} (hls : jent av 2 = ls) (hn : (jsl av).length ≤ 2 := by first | exact Nat.le_of_ble_eq_true rfl | (simp [jsl, jcat_v]; done)) (body : ∀ M : JM, JX M K l cJ11_nextNode RJ11 2 ((Option.some (.object "java/util/LinkedHashMap$Entry"))) "nextNode" [] lv h0 QR QX → J M h0 0 ls []) : Ct K l yJ11_nextNode wJ11_nextNode lv av h0 QR QX := Ct.start F (by decide +kernel) hn hls body
theorem lk_J13_1 : jLkI RJ13 1 yJ11_init 2 := ⟨rfl, q579, q549, ⟨by decide, by decide⟩, jNp_of (by decide +kernel)⟩
theorem lk_J13_7_J13 : jLkU RJ13 7 ⟨"java/util/LinkedHashMap$LinkedKeyIterator", "nextNode", "()Ljava/util/LinkedHashMap$Entry;"⟩ yJ11_nextNode RJ13 0 := ⟨"java/util/LinkedHashMap$LinkedHashIterator", q1158, q1159, Or.inl q1149, ⟨by decide, by decide⟩, q1160, q1151, jNp_of (by decide +kernel)⟩
theorem lk_J13_13_J34 : jLkU RJ13 13 ⟨"java/util/LinkedHashMap$Entry", "getKey", "()Ljava/lang/Object;"⟩ yJ33_getKey RJ34 0 := ⟨"java/util/HashMap$Node", q1161, q1162, Or.inl q1163, ⟨by decide, by decide⟩, q1165, q1166, jNp_of (by decide +kernel)⟩
abbrev wJ33_getKey : List Cond := ws_ yJ33_getKey cJ33_getKey 1 ((Option.some (.object "java/lang/Object")))
theorem ce_J33_getKey : jCe yJ33_getKey cJ33_getKey 1 ((Option.some (.object "java/lang/Object"))) := ⟨q1167, q112, by decide⟩
theorem st_J33_getKey {K : JK} {l : Launch} {lv : Nat} {av : List Value} {h0 : JIH} {QR : JQR} {QX : JQX} (F : JF K) {ls : List (Option Value)} (hls : jent av 1 = ls) (hn : (jsl av).length ≤ 1 := by first | exact Nat.le_of_ble_eq_true rfl | (simp [jsl, jcat_v]; done)) (body : ∀ M : JM, JX M K l cJ33_getKey RJ33 1 ((Option.some (.object "java/lang/Object"))) "getKey" [] lv h0 QR QX → J M h0 0 ls []) : Ct K l yJ33_getKey wJ33_getKey lv av h0 QR QX := Ct.start F (by decide +kernel) hn hls body
theorem fl_J33_13_J34 : jFL RJ33 13 13 1 := ⟨RJ34, TJ34, 6, "java/util/HashMap$Node", rfl, by decide, Or.inl q1590, Or.inl rfl⟩
theorem fl_J33_17_J34 : jFL RJ33 17 13 2 := ⟨RJ34, TJ34, 6, "java/util/HashMap$Node", rfl, by decide, Or.inl q1597, Or.inl rfl⟩
theorem lk_J33_1 : Cond.methodLink RJ33 1 objectInit ∈ lw_all := q1578
theorem fl_J33_7_J34 : jFL RJ33 7 13 0 := ⟨RJ34, TJ34, 6, "java/util/HashMap$Node", rfl, by decide, Or.inl q1583, Or.inl rfl⟩
theorem pl_J33_7_J34 : jPL RJ33 "<init>" 7 13 0 (.int) := ⟨RJ34, TJ34, 6, "java/util/HashMap$Node", rfl, by decide, Or.inr ⟨q1583, rfl, rfl, rfl⟩, Or.inl rfl, by decide +kernel⟩
theorem pl_J33_13_J34 : jPL RJ33 "<init>" 13 13 1 (.object "java/lang/Object") := ⟨RJ34, TJ34, 6, "java/util/HashMap$Node", rfl, by decide, Or.inr ⟨q1590, rfl, rfl, rfl⟩, Or.inl rfl, by decide +kernel⟩
theorem pl_J33_17_J34 (nm : String) : jPL RJ33 nm 17 13 2 (.object "java/lang/Object") := ⟨RJ34, TJ34, 6, "java/util/HashMap$Node", rfl, by decide, Or.inl ⟨Or.inl q1597, rfl⟩, Or.inl rfl, by decide +kernel⟩
theorem fl_J33_20_J34 : jFL RJ33 20 13 3 := ⟨RJ34, TJ34, 6, "java/util/HashMap$Node", rfl, by decide, Or.inl q1603, Or.inl rfl⟩
theorem pl_J33_20_J34 (nm : String) : jPL RJ33 nm 20 13 3 (.object "java/util/HashMap$Node") := ⟨RJ34, TJ34, 6, "java/util/HashMap$Node", rfl, by decide, Or.inl ⟨Or.inl q1603, rfl⟩, Or.inl rfl, by decide +kernel⟩
theorem lk_J34_1 : jLkI RJ34 1 yJ33_init 4 := ⟨rfl, q1575, q1576, ⟨by decide, by decide⟩, jNp_of (by decide +kernel)⟩
abbrev wJ33_init : List Cond := ws_ yJ33_init cJ33_init 5 (none)
theorem ce_J33_init : jCe yJ33_init cJ33_init 5 (none) := ⟨q1577, q112, by decide⟩
theorem st_J33_init {K : JK} {l : Launch} {lv : Nat} {av : List Value} {h0 : JIH} {QR : JQR} {QX : JQX} (F : JF K) {ls : List (Option Value)} (hls : jent av 5 = ls) (hn : (jsl av).length ≤ 5 := by first | exact Nat.le_of_ble_eq_true rfl | (simp [jsl, jcat_v]; done)) (body : ∀ M : JM, JX M K l cJ33_init RJ33 5 (none) "<init>" [] lv h0 QR QX → J M h0 0 ls []) : Ct K l yJ33_init wJ33_init lv av h0 QR QX := Ct.start F (by decide +kernel) hn hls body
theorem cl_J37_26 : jCL RJ37 26 "java/util/LinkedHashMap$LinkedKeyIterator" := q574
theorem fl_J37_1_J37 : jFL RJ37 1 20 1 := ⟨RJ37, TJ37, 2, "java/util/LinkedHashMap$LinkedKeySet", rfl, by decide, Or.inl q2117, Or.inl rfl⟩
theorem fl_J37_13_J37 : jFL RJ37 13 20 0 := ⟨RJ37, TJ37, 2, "java/util/LinkedHashMap$LinkedKeySet", rfl, by decide, Or.inl q2116, Or.inl rfl⟩
theorem lk_J37_28 : jLkI RJ37 28 yJ13_init 2 := ⟨rfl, q576, q577, ⟨by decide, by decide⟩, jNp_of (by decide +kernel)⟩
abbrev wJ13_init : List Cond := ws_ yJ13_init cJ13_init 3 (none)
theorem ce_J13_init : jCe yJ13_init cJ13_init 3 (none) := ⟨q578, q88, by decide⟩
theorem st_J13_init {K : JK} {l : Launch} {lv : Nat} {av : List Value} {h0 : JIH} {QR : JQR} {QX : JQX} (F : JF K) {ls : List (Option Value)} (hls : jent av 3 = ls) (hn : (jsl av).length ≤ 3 := by first | exact Nat.le_of_ble_eq_true rfl | (simp [jsl, jcat_v]; done)) (body : ∀ M : JM, JX M K l cJ13_init RJ13 3 (none) "<init>" [] lv h0 QR QX → J M h0 0 ls []) : Ct K l yJ13_init wJ13_init lv av h0 QR QX := Ct.start F (by decide +kernel) hn hls body
theorem pl_J37_1_J37 : jPL RJ37 "<init>" 1 20 1 (.object "java/util/LinkedHashMap") := ⟨RJ37, TJ37, 2, "java/util/LinkedHashMap$LinkedKeySet", rfl, by decide, Or.inr ⟨q2117, rfl, rfl, rfl⟩, Or.inl rfl, by decide +kernel⟩
theorem lk_J37_7 : jLkI RJ37 7 yJ9_init 0 := ⟨rfl, q2115, q522, ⟨by decide, by decide⟩, jNp_of (by decide +kernel)⟩
theorem pl_J37_13_J37 : jPL RJ37 "<init>" 13 20 0 (.boolean) := ⟨RJ37, TJ37, 2, "java/util/LinkedHashMap$LinkedKeySet", rfl, by decide, Or.inr ⟨q2116, rfl, rfl, rfl⟩, Or.inl rfl, by decide +kernel⟩
theorem fl_J38_19_J38 : jFL RJ38 19 15 1 := ⟨RJ38, TJ38, 4, "java/util/ArrayDeque$DeqIterator", rfl, by decide, Or.inl q2155, Or.inl rfl⟩
theorem fl_J38_1_J38 : jFL RJ38 1 15 3 := ⟨RJ38, TJ38, 4, "java/util/ArrayDeque$DeqIterator", rfl, by decide, Or.inl q2157, Or.inl rfl⟩
theorem fl_J38_35_J4 : jFL RJ38 35 14 0 := ⟨RJ4, TJ4, 3, "java/util/ArrayDeque", rfl, by decide, Or.inl q237, Or.inl rfl⟩
theorem fl_J38_29_J38 : jFL RJ38 29 15 0 := ⟨RJ38, TJ38, 4, "java/util/ArrayDeque$DeqIterator", rfl, by decide, Or.inl q2154, Or.inl rfl⟩
theorem lk_J38_39 : jLkS RJ38 39 yJ4_nonNullElementAt 2 := ⟨q1132, q1133, ⟨by decide, by decide⟩, jNp_of (by decide +kernel)⟩
abbrev wJ4_nonNullElementAt : List Cond := ws_ yJ4_nonNullElementAt cJ4_nonNullElementAt 3 ((Option.some (.object "java/lang/Object")))
theorem ce_J4_nonNullElementAt : jCe yJ4_nonNullElementAt cJ4_nonNullElementAt 3 ((Option.some (.object "java/lang/Object"))) := ⟨q1134, q76, by decide⟩
theorem st_J4_nonNullElementAt {K : JK} {l : Launch} {lv : Nat} {av : List Value} {h0 : JIH} {QR : JQR} {QX : JQX} (F : JF K) {ls : List (Option Value)} (hls : jent av 3 = ls) (hn : (jsl av).length ≤ 3 := by first | exact Nat.le_of_ble_eq_true rfl | (simp [jsl, jcat_v]; done)) (body : ∀ M : JM, JX M K l cJ4_nonNullElementAt RJ4 3 ((Option.some (.object "java/lang/Object"))) "nonNullElementAt" [] lv h0 QR QX → J M h0 0 ls []) : Ct K l yJ4_nonNullElementAt wJ4_nonNullElementAt lv av h0 QR QX := Ct.start F (by decide +kernel) hn hls body
theorem fl_J38_23_J38 : jFL RJ38 23 15 2 := ⟨RJ38, TJ38, 4, "java/util/ArrayDeque$DeqIterator", rfl, by decide, Or.inl q2156, Or.inl rfl⟩
theorem pl_J38_23_J38 (nm : String) : jPL RJ38 nm 23 15 2 (.int) := ⟨RJ38, TJ38, 4, "java/util/ArrayDeque$DeqIterator", rfl, by decide, Or.inl ⟨Or.inl q2156, rfl⟩, Or.inl rfl, by decide +kernel⟩
theorem lk_J38_43 : jLkS RJ38 43 yJ4_inc 2 := ⟨q1135, q1136, ⟨by decide, by decide⟩, jNp_of (by decide +kernel)⟩
theorem pl_J38_29_J38 (nm : String) : jPL RJ38 nm 29 15 0 (.int) := ⟨RJ38, TJ38, 4, "java/util/ArrayDeque$DeqIterator", rfl, by decide, Or.inl ⟨Or.inl q2154, rfl⟩, Or.inl rfl, by decide +kernel⟩
theorem pl_J38_19_J38 (nm : String) : jPL RJ38 nm 19 15 1 (.int) := ⟨RJ38, TJ38, 4, "java/util/ArrayDeque$DeqIterator", rfl, by decide, Or.inl ⟨Or.inl q2155, rfl⟩, Or.inl rfl, by decide +kernel⟩
theorem lk_J38_53_J4 : jLkV RJ38 53 yJ4_delete RJ4 1 := ⟨q1285, q1286, q1287, ⟨by decide, by decide⟩, jNp_of (by decide +kernel)⟩
abbrev wJ4_delete : List Cond := ws_ yJ4_delete cJ4_delete 8 ((some .boolean))
theorem ce_J4_delete : jCe yJ4_delete cJ4_delete 8 ((some .boolean)) := ⟨q1288, q76, by decide⟩
theorem st_J4_delete {K : JK} {l : Launch} {lv : Nat} {av : List Value} {h0 : JIH} {QR : JQR} {QX : JQX} (F : JF K) {ls : List (Option Value)} (hls : jent av 8 = ls) (hn : (jsl av).length ≤ 8 := by first | exact Nat.le_of_ble_eq_true rfl | (simp [jsl, jcat_v]; done)) (body : ∀ M : JM, JX M K l cJ4_delete RJ4 8 ((some .boolean)) "delete" [] lv h0 QR QX → J M h0 0 ls []) : Ct K l yJ4_delete wJ4_delete lv av h0 QR QX := Ct.start F (by decide +kernel) hn hls body
theorem lk_J38_57_J38 : jLkV RJ38 57 yJ38_postDelete RJ38 1 := ⟨q1297, q1298, q1299, ⟨by decide, by decide⟩, jNp_of (by decide +kernel)⟩
abbrev wJ38_postDelete : List Cond := ws_ yJ38_postDelete cJ38_postDelete 2 (none)
theorem ce_J38_postDelete : jCe yJ38_postDelete cJ38_postDelete 2 (none) := ⟨q1300, q119, by decide⟩
theorem st_J38_postDelete {K : JK} {l : Launch} {lv : Nat} {av : List Value} {h0 : JIH} {QR : JQR} {QX : JQX} (F : JF K) {ls : List (Option Value)} (hls : jent av 2 = ls) (hn : (jsl av).length ≤ 2 := by first | exact Nat.le_of_ble_eq_true rfl | (simp [jsl, jcat_v]; done)) (body : ∀ M : JM, JX M K l cJ38_postDelete RJ38 2 (none) "postDelete" [] lv h0 QR QX → J M h0 0 ls []) : Ct K l yJ38_postDelete wJ38_postDelete lv av h0 QR QX := Ct.start F (by decide +kernel) hn hls body
theorem lk_J38_47 : jLkS RJ38 47 yJ4_dec 2 := ⟨q1301, q1295, ⟨by decide, by decide⟩, jNp_of (by decide +kernel)⟩
theorem pl_J38_1_J38 : jPL RJ38 "<init>" 1 15 3 (.object "java/util/ArrayDeque") := ⟨RJ38, TJ38, 4, "java/util/ArrayDeque$DeqIterator", rfl, by decide, Or.inr ⟨q2157, rfl, rfl, rfl⟩, Or.inl rfl, by decide +kernel⟩
theorem lk_J38_7 : Cond.methodLink RJ38 7 objectInit ∈ lw_all := q2152
theorem lk_J38_13_J4 : jLkV RJ38 13 yJ4_size RJ4 0 := ⟨q2153, q1964, q1965, ⟨by decide, by decide⟩, jNp_of (by decide +kernel)⟩
abbrev wJ4_size : List Cond := ws_ yJ4_size cJ4_size 1 ((some .int))
theorem ce_J4_size : jCe yJ4_size cJ4_size 1 ((some .int)) := ⟨q1966, q76, by decide⟩
theorem st_J4_size {K : JK} {l : Launch} {lv : Nat} {av : List Value} {h0 : JIH} {QR : JQR} {QX : JQX} (F : JF K) {ls : List (Option Value)} (hls : jent av 1 = ls) (hn : (jsl av).length ≤ 1 := by first | exact Nat.le_of_ble_eq_true rfl | (simp [jsl, jcat_v]; done)) (body : ∀ M : JM, JX M K l cJ4_size RJ4 1 ((some .int)) "size" [] lv h0 QR QX → J M h0 0 ls []) : Ct K l yJ4_size wJ4_size lv av h0 QR QX := Ct.start F (by decide +kernel) hn hls body
theorem fl_J38_26_J4 : jFL RJ38 26 14 1 := ⟨RJ4, TJ4, 3, "java/util/ArrayDeque", rfl, by decide, Or.inl q238, Or.inl rfl⟩
theorem lk_J39_1 : Cond.methodLink RJ39 1 objectInit ∈ lw_all := q2352
theorem fl_J39_7_J39 : jFL RJ39 7 17 0 := ⟨RJ39, TJ39, 3, "java/util/LinkedList$Node", rfl, by decide, Or.inl q2353, Or.inl rfl⟩
theorem pl_J39_7_J39 (nm : String) : jPL RJ39 nm 7 17 0 (.object "java/lang/Object") := ⟨RJ39, TJ39, 3, "java/util/LinkedList$Node", rfl, by decide, Or.inl ⟨Or.inl q2353, rfl⟩, Or.inl rfl, by decide +kernel⟩
theorem fl_J39_13_J39 : jFL RJ39 13 17 1 := ⟨RJ39, TJ39, 3, "java/util/LinkedList$Node", rfl, by decide, Or.inl q2356, Or.inl rfl⟩
theorem pl_J39_13_J39 (nm : String) : jPL RJ39 nm 13 17 1 (.object "java/util/LinkedList$Node") := ⟨RJ39, TJ39, 3, "java/util/LinkedList$Node", rfl, by decide, Or.inl ⟨Or.inl q2356, rfl⟩, Or.inl rfl, by decide +kernel⟩
theorem fl_J39_17_J39 : jFL RJ39 17 17 2 := ⟨RJ39, TJ39, 3, "java/util/LinkedList$Node", rfl, by decide, Or.inl q2359, Or.inl rfl⟩
theorem pl_J39_17_J39 (nm : String) : jPL RJ39 nm 17 17 2 (.object "java/util/LinkedList$Node") := ⟨RJ39, TJ39, 3, "java/util/LinkedList$Node", rfl, by decide, Or.inl ⟨Or.inl q2359, rfl⟩, Or.inl rfl, by decide +kernel⟩
theorem fl_J41_33_J41 : jFL RJ41 33 18 2 := ⟨RJ41, TJ41, 5, "java/util/LinkedList$ListItr", rfl, by decide, Or.inl q2418, Or.inl rfl⟩
theorem fl_J41_1_J41 : jFL RJ41 1 18 4 := ⟨RJ41, TJ41, 5, "java/util/LinkedList$ListItr", rfl, by decide, Or.inl q2420, Or.inl rfl⟩
theorem fl_J41_22_J7 : jFL RJ41 22 16 1 := ⟨RJ7, TJ7, 4, "java/util/LinkedList", rfl, by decide, Or.inl q402, Or.inl rfl⟩
theorem lk_J41_36_J41 : jLkV RJ41 36 yJ41_checkForComodification RJ41 0 := ⟨q1181, q1182, q1183, ⟨by decide, by decide⟩, jNp_of (by decide +kernel)⟩
abbrev wJ41_checkForComodification : List Cond := ws_ yJ41_checkForComodification cJ41_checkForComodification 1 (none)
theorem ce_J41_checkForComodification : jCe yJ41_checkForComodification cJ41_checkForComodification 1 (none) := ⟨q1184, q126, by decide⟩
theorem st_J41_checkForComodification {K : JK} {l : Launch} {lv : Nat} {av : List Value} {h0 : JIH} {QR : JQR} {QX : JQX} (F : JF K) {ls : List (Option Value)} (hls : jent av 1 = ls) (hn : (jsl av).length ≤ 1 := by first | exact Nat.le_of_ble_eq_true rfl | (simp [jsl, jcat_v]; done)) (body : ∀ M : JM, JX M K l cJ41_checkForComodification RJ41 1 (none) "checkForComodification" [] lv h0 QR QX → J M h0 0 ls []) : Ct K l yJ41_checkForComodification wJ41_checkForComodification lv av h0 QR QX := Ct.start F (by decide +kernel) hn hls body
theorem lk_J41_39_J41 : jLkV RJ41 39 yJ41_hasNext RJ41 0 := ⟨q1185, q623, q3021, ⟨by decide, by decide⟩, jNp_of (by decide +kernel)⟩
abbrev wJ41_hasNext : List Cond := ws_ yJ41_hasNext cJ41_hasNext 1 ((some .boolean))
theorem ce_J41_hasNext : jCe yJ41_hasNext cJ41_hasNext 1 ((some .boolean)) := ⟨q625, q126, by decide⟩
theorem st_J41_hasNext {K : JK} {l : Launch} {lv : Nat} {av : List Value} {h0 : JIH} {QR : JQR} {QX : JQX} (F : JF K) {ls : List (Option Value)} (hls : jent av 1 = ls) (hn : (jsl av).length ≤ 1 := by first | exact Nat.le_of_ble_eq_true rfl | (simp [jsl, jcat_v]; done)) (body : ∀ M : JM, JX M K l cJ41_hasNext RJ41 1 ((some .boolean)) "hasNext" [] lv h0 QR QX → J M h0 0 ls []) : Ct K l yJ41_hasNext wJ41_hasNext lv av h0 QR QX := Ct.start F (by decide +kernel) hn hls body
theorem fl_J41_29_J41 : jFL RJ41 29 18 1 := ⟨RJ41, TJ41, 5, "java/util/LinkedList$ListItr", rfl, by decide, Or.inl q2417, Or.inl rfl⟩
theorem fl_J41_46_J41 : jFL RJ41 46 18 0 := ⟨RJ41, TJ41, 5, "java/util/LinkedList$ListItr", rfl, by decide, Or.inl q2416, Or.inl rfl⟩
theorem pl_J41_46_J41 (nm : String) : jPL RJ41 nm 46 18 0 (.object "java/util/LinkedList$Node") := ⟨RJ41, TJ41, 5, "java/util/LinkedList$ListItr", rfl, by decide, Or.inl ⟨Or.inl q2416, rfl⟩, Or.inl rfl, by decide +kernel⟩
theorem fl_J41_49_J39 : jFL RJ41 49 17 1 := ⟨RJ39, TJ39, 3, "java/util/LinkedList$Node", rfl, by decide, Or.inl q2357, Or.inl rfl⟩
theorem pl_J41_29_J41 (nm : String) : jPL RJ41 nm 29 18 1 (.object "java/util/LinkedList$Node") := ⟨RJ41, TJ41, 5, "java/util/LinkedList$ListItr", rfl, by decide, Or.inl ⟨Or.inl q2417, rfl⟩, Or.inl rfl, by decide +kernel⟩
theorem pl_J41_33_J41 (nm : String) : jPL RJ41 nm 33 18 2 (.int) := ⟨RJ41, TJ41, 5, "java/util/LinkedList$ListItr", rfl, by decide, Or.inl ⟨Or.inl q2418, rfl⟩, Or.inl rfl, by decide +kernel⟩
theorem fl_J41_52_J39 : jFL RJ41 52 17 0 := ⟨RJ39, TJ39, 3, "java/util/LinkedList$Node", rfl, by decide, Or.inl q2354, Or.inl rfl⟩
theorem fl_J41_13_J7 : jFL RJ41 13 16 0 := ⟨RJ7, TJ7, 4, "java/util/LinkedList", rfl, by decide, Or.inl q406, Or.inr q407⟩
theorem fl_J41_19_J41 : jFL RJ41 19 18 3 := ⟨RJ41, TJ41, 5, "java/util/LinkedList$ListItr", rfl, by decide, Or.inl q2419, Or.inl rfl⟩
theorem lk_J41_68_J7 : jLkV RJ41 68 yJ7_unlink RJ7 1 := ⟨q1657, q1263, q1264, ⟨by decide, by decide⟩, jNp_of (by decide +kernel)⟩
theorem pl_J41_19_J41 (nm : String) : jPL RJ41 nm 19 18 3 (.int) := ⟨RJ41, TJ41, 5, "java/util/LinkedList$ListItr", rfl, by decide, Or.inl ⟨Or.inl q2419, rfl⟩, Or.inl rfl, by decide +kernel⟩
theorem pl_J41_1_J41 : jPL RJ41 "<init>" 1 18 4 (.object "java/util/LinkedList") := ⟨RJ41, TJ41, 5, "java/util/LinkedList$ListItr", rfl, by decide, Or.inr ⟨q2420, rfl, rfl, rfl⟩, Or.inl rfl, by decide +kernel⟩
theorem lk_J41_7 : Cond.methodLink RJ41 7 objectInit ∈ lw_all := q2414
theorem lk_J41_25_J7 : jLkV RJ41 25 yJ7_node RJ7 1 := ⟨q2415, q1004, q1005, ⟨by decide, by decide⟩, jNp_of (by decide +kernel)⟩
theorem fl_J42_1_J42 : jFL RJ42 1 21 1 := ⟨RJ42, TJ42, 2, "java/util/LinkedHashMap$LinkedValues", rfl, by decide, Or.inl q2521, Or.inl rfl⟩
theorem pl_J42_1_J42 : jPL RJ42 "<init>" 1 21 1 (.object "java/util/LinkedHashMap") := ⟨RJ42, TJ42, 2, "java/util/LinkedHashMap$LinkedValues", rfl, by decide, Or.inr ⟨q2521, rfl, rfl, rfl⟩, Or.inl rfl, by decide +kernel⟩
theorem lk_J42_7 : jLkI RJ42 7 yJ3_init 0 := ⟨rfl, q2519, q231, ⟨by decide, by decide⟩, jNp_of (by decide +kernel)⟩
theorem fl_J42_13_J42 : jFL RJ42 13 21 0 := ⟨RJ42, TJ42, 2, "java/util/LinkedHashMap$LinkedValues", rfl, by decide, Or.inl q2520, Or.inl rfl⟩
theorem pl_J42_13_J42 : jPL RJ42 "<init>" 13 21 0 (.boolean) := ⟨RJ42, TJ42, 2, "java/util/LinkedHashMap$LinkedValues", rfl, by decide, Or.inr ⟨q2520, rfl, rfl, rfl⟩, Or.inl rfl, by decide +kernel⟩
theorem cl_J42_26 : jCL RJ42 26 "java/util/LinkedHashMap$LinkedValueIterator" := q2546
theorem lk_J42_28 : jLkI RJ42 28 yJ43_init 2 := ⟨rfl, q2548, q2549, ⟨by decide, by decide⟩, jNp_of (by decide +kernel)⟩
abbrev wJ43_init : List Cond := ws_ yJ43_init cJ43_init 3 (none)
theorem ce_J43_init : jCe yJ43_init cJ43_init 3 (none) := ⟨q2550, q128, by decide⟩
theorem st_J43_init {K : JK} {l : Launch} {lv : Nat} {av : List Value} {h0 : JIH} {QR : JQR} {QX : JQX} (F : JF K) {ls : List (Option Value)} (hls : jent av 3 = ls) (hn : (jsl av).length ≤ 3 := by first | exact Nat.le_of_ble_eq_true rfl | (simp [jsl, jcat_v]; done)) (body : ∀ M : JM, JX M K l cJ43_init RJ43 3 (none) "<init>" [] lv h0 QR QX → J M h0 0 ls []) : Ct K l yJ43_init wJ43_init lv av h0 QR QX := Ct.start F (by decide +kernel) hn hls body
theorem lk_J43_7_J43 : jLkU RJ43 7 ⟨"java/util/LinkedHashMap$LinkedValueIterator", "nextNode", "()Ljava/util/LinkedHashMap$Entry;"⟩ yJ11_nextNode RJ43 0 := ⟨"java/util/LinkedHashMap$LinkedHashIterator", q1173, q1174, Or.inl q1149, ⟨by decide, by decide⟩, q1175, q1151, jNp_of (by decide +kernel)⟩
theorem fl_J43_13_J34 : jFL RJ43 13 13 2 := ⟨RJ34, TJ34, 6, "java/util/LinkedHashMap$Entry", rfl, by decide, Or.inl q1598, Or.inr q1599⟩
theorem lk_J43_1 : jLkI RJ43 1 yJ11_init 2 := ⟨rfl, q2551, q549, ⟨by decide, by decide⟩, jNp_of (by decide +kernel)⟩
theorem lk_J14_1 : Cond.methodLink RJ14 1 objectInit ∈ lw_all := q679
theorem fl_J14_7_X11 : jFL RJ14 7 11 0 := ⟨RX11, TX11, 7, "java/lang/Throwable", rfl, by decide, Or.inl q757, Or.inl rfl⟩
theorem pl_J14_7_X11 (nm : String) : jPL RJ14 nm 7 11 0 (.object "java/lang/Throwable") := ⟨RX11, TX11, 7, "java/lang/Throwable", rfl, by decide, Or.inl ⟨Or.inl q757, rfl⟩, Or.inl rfl, by decide +kernel⟩
theorem fl_J14_7_J36 : jFL RJ14 7 25 0 := ⟨RJ36, TJ36, 8, "java/lang/Throwable", rfl, by decide, Or.inl q757, Or.inl rfl⟩
theorem pl_J14_7_J36 (nm : String) : jPL RJ14 nm 7 25 0 (.object "java/lang/Throwable") := ⟨RJ36, TJ36, 8, "java/lang/Throwable", rfl, by decide, Or.inl ⟨Or.inl q757, rfl⟩, Or.inl rfl, by decide +kernel⟩
theorem fl_J14_7_J22 : jFL RJ14 7 26 0 := ⟨RJ22, TJ22, 6, "java/lang/Throwable", rfl, by decide, Or.inl q757, Or.inl rfl⟩
theorem pl_J14_7_J22 (nm : String) : jPL RJ14 nm 7 26 0 (.object "java/lang/Throwable") := ⟨RJ22, TJ22, 6, "java/lang/Throwable", rfl, by decide, Or.inl ⟨Or.inl q757, rfl⟩, Or.inl rfl, by decide +kernel⟩
theorem fl_J14_7_J44 : jFL RJ14 7 27 2 := ⟨RJ44, TJ44, 6, "java/lang/Throwable", rfl, by decide, Or.inl q757, Or.inl rfl⟩
theorem pl_J14_7_J44 (nm : String) : jPL RJ14 nm 7 27 2 (.object "java/lang/Throwable") := ⟨RJ44, TJ44, 6, "java/lang/Throwable", rfl, by decide, Or.inl ⟨Or.inl q757, rfl⟩, Or.inl rfl, by decide +kernel⟩
theorem fl_J14_7_J45 : jFL RJ14 7 28 2 := ⟨RJ45, TJ45, 6, "java/lang/Throwable", rfl, by decide, Or.inl q757, Or.inl rfl⟩
theorem pl_J14_7_J45 (nm : String) : jPL RJ14 nm 7 28 2 (.object "java/lang/Throwable") := ⟨RJ45, TJ45, 6, "java/lang/Throwable", rfl, by decide, Or.inl ⟨Or.inl q757, rfl⟩, Or.inl rfl, by decide +kernel⟩
theorem fl_J14_7_J46 : jFL RJ14 7 29 2 := ⟨RJ46, TJ46, 6, "java/lang/Throwable", rfl, by decide, Or.inl q757, Or.inl rfl⟩
theorem pl_J14_7_J46 (nm : String) : jPL RJ14 nm 7 29 2 (.object "java/lang/Throwable") := ⟨RJ46, TJ46, 6, "java/lang/Throwable", rfl, by decide, Or.inl ⟨Or.inl q757, rfl⟩, Or.inl rfl, by decide +kernel⟩
theorem fl_J14_17_X11 : jFL RJ14 17 11 1 := ⟨RX11, TX11, 7, "java/lang/Throwable", rfl, by decide, Or.inl q758, Or.inl rfl⟩
theorem pl_J14_17_X11 (nm : String) : jPL RJ14 nm 17 11 1 (.array (.object "java/lang/StackTraceElement")) := ⟨RX11, TX11, 7, "java/lang/Throwable", rfl, by decide, Or.inl ⟨Or.inl q758, rfl⟩, Or.inl rfl, by decide +kernel⟩
theorem fl_J14_17_J36 : jFL RJ14 17 25 1 := ⟨RJ36, TJ36, 8, "java/lang/Throwable", rfl, by decide, Or.inl q758, Or.inl rfl⟩
theorem pl_J14_17_J36 (nm : String) : jPL RJ14 nm 17 25 1 (.array (.object "java/lang/StackTraceElement")) := ⟨RJ36, TJ36, 8, "java/lang/Throwable", rfl, by decide, Or.inl ⟨Or.inl q758, rfl⟩, Or.inl rfl, by decide +kernel⟩
theorem fl_J14_17_J22 : jFL RJ14 17 26 1 := ⟨RJ22, TJ22, 6, "java/lang/Throwable", rfl, by decide, Or.inl q758, Or.inl rfl⟩
theorem pl_J14_17_J22 (nm : String) : jPL RJ14 nm 17 26 1 (.array (.object "java/lang/StackTraceElement")) := ⟨RJ22, TJ22, 6, "java/lang/Throwable", rfl, by decide, Or.inl ⟨Or.inl q758, rfl⟩, Or.inl rfl, by decide +kernel⟩
theorem fl_J14_17_J44 : jFL RJ14 17 27 3 := ⟨RJ44, TJ44, 6, "java/lang/Throwable", rfl, by decide, Or.inl q758, Or.inl rfl⟩
theorem pl_J14_17_J44 (nm : String) : jPL RJ14 nm 17 27 3 (.array (.object "java/lang/StackTraceElement")) := ⟨RJ44, TJ44, 6, "java/lang/Throwable", rfl, by decide, Or.inl ⟨Or.inl q758, rfl⟩, Or.inl rfl, by decide +kernel⟩
theorem fl_J14_17_J45 : jFL RJ14 17 28 3 := ⟨RJ45, TJ45, 6, "java/lang/Throwable", rfl, by decide, Or.inl q758, Or.inl rfl⟩
theorem pl_J14_17_J45 (nm : String) : jPL RJ14 nm 17 28 3 (.array (.object "java/lang/StackTraceElement")) := ⟨RJ45, TJ45, 6, "java/lang/Throwable", rfl, by decide, Or.inl ⟨Or.inl q758, rfl⟩, Or.inl rfl, by decide +kernel⟩
theorem fl_J14_17_J46 : jFL RJ14 17 29 3 := ⟨RJ46, TJ46, 6, "java/lang/Throwable", rfl, by decide, Or.inl q758, Or.inl rfl⟩
theorem pl_J14_17_J46 (nm : String) : jPL RJ14 nm 17 29 3 (.array (.object "java/lang/StackTraceElement")) := ⟨RJ46, TJ46, 6, "java/lang/Throwable", rfl, by decide, Or.inl ⟨Or.inl q758, rfl⟩, Or.inl rfl, by decide +kernel⟩
theorem fl_J14_24_X11 : jFL RJ14 24 11 2 := ⟨RX11, TX11, 7, "java/lang/Throwable", rfl, by decide, Or.inl q759, Or.inl rfl⟩
theorem pl_J14_24_X11 (nm : String) : jPL RJ14 nm 24 11 2 (.object "java/util/List") := ⟨RX11, TX11, 7, "java/lang/Throwable", rfl, by decide, Or.inl ⟨Or.inl q759, rfl⟩, Or.inl rfl, by decide +kernel⟩
theorem fl_J14_24_J36 : jFL RJ14 24 25 2 := ⟨RJ36, TJ36, 8, "java/lang/Throwable", rfl, by decide, Or.inl q759, Or.inl rfl⟩
theorem pl_J14_24_J36 (nm : String) : jPL RJ14 nm 24 25 2 (.object "java/util/List") := ⟨RJ36, TJ36, 8, "java/lang/Throwable", rfl, by decide, Or.inl ⟨Or.inl q759, rfl⟩, Or.inl rfl, by decide +kernel⟩
theorem fl_J14_24_J22 : jFL RJ14 24 26 2 := ⟨RJ22, TJ22, 6, "java/lang/Throwable", rfl, by decide, Or.inl q759, Or.inl rfl⟩
theorem pl_J14_24_J22 (nm : String) : jPL RJ14 nm 24 26 2 (.object "java/util/List") := ⟨RJ22, TJ22, 6, "java/lang/Throwable", rfl, by decide, Or.inl ⟨Or.inl q759, rfl⟩, Or.inl rfl, by decide +kernel⟩
theorem fl_J14_24_J44 : jFL RJ14 24 27 5 := ⟨RJ44, TJ44, 6, "java/lang/Throwable", rfl, by decide, Or.inl q759, Or.inl rfl⟩
theorem pl_J14_24_J44 (nm : String) : jPL RJ14 nm 24 27 5 (.object "java/util/List") := ⟨RJ44, TJ44, 6, "java/lang/Throwable", rfl, by decide, Or.inl ⟨Or.inl q759, rfl⟩, Or.inl rfl, by decide +kernel⟩
theorem fl_J14_24_J45 : jFL RJ14 24 28 5 := ⟨RJ45, TJ45, 6, "java/lang/Throwable", rfl, by decide, Or.inl q759, Or.inl rfl⟩
theorem pl_J14_24_J45 (nm : String) : jPL RJ14 nm 24 28 5 (.object "java/util/List") := ⟨RJ45, TJ45, 6, "java/lang/Throwable", rfl, by decide, Or.inl ⟨Or.inl q759, rfl⟩, Or.inl rfl, by decide +kernel⟩
theorem fl_J14_24_J46 : jFL RJ14 24 29 5 := ⟨RJ46, TJ46, 6, "java/lang/Throwable", rfl, by decide, Or.inl q759, Or.inl rfl⟩
theorem pl_J14_24_J46 (nm : String) : jPL RJ14 nm 24 29 5 (.object "java/util/List") := ⟨RJ46, TJ46, 6, "java/lang/Throwable", rfl, by decide, Or.inl ⟨Or.inl q759, rfl⟩, Or.inl rfl, by decide +kernel⟩
theorem fl_J14_31_X11 : jFL RJ14 31 11 3 := ⟨RX11, TX11, 7, "java/lang/Throwable", rfl, by decide, Or.inl q756, Or.inl rfl⟩
theorem pl_J14_31_X11 (nm : String) : jPL RJ14 nm 31 11 3 (.object "java/lang/String") := ⟨RX11, TX11, 7, "java/lang/Throwable", rfl, by decide, Or.inl ⟨Or.inl q756, rfl⟩, Or.inl rfl, by decide +kernel⟩
theorem fl_J14_31_J36 : jFL RJ14 31 25 3 := ⟨RJ36, TJ36, 8, "java/lang/Throwable", rfl, by decide, Or.inl q756, Or.inl rfl⟩
theorem pl_J14_31_J36 (nm : String) : jPL RJ14 nm 31 25 3 (.object "java/lang/String") := ⟨RJ36, TJ36, 8, "java/lang/Throwable", rfl, by decide, Or.inl ⟨Or.inl q756, rfl⟩, Or.inl rfl, by decide +kernel⟩
theorem fl_J14_31_J22 : jFL RJ14 31 26 3 := ⟨RJ22, TJ22, 6, "java/lang/Throwable", rfl, by decide, Or.inl q756, Or.inl rfl⟩
theorem pl_J14_31_J22 (nm : String) : jPL RJ14 nm 31 26 3 (.object "java/lang/String") := ⟨RJ22, TJ22, 6, "java/lang/Throwable", rfl, by decide, Or.inl ⟨Or.inl q756, rfl⟩, Or.inl rfl, by decide +kernel⟩
theorem fl_J14_31_J44 : jFL RJ14 31 27 1 := ⟨RJ44, TJ44, 6, "java/lang/Throwable", rfl, by decide, Or.inl q756, Or.inl rfl⟩
theorem pl_J14_31_J44 (nm : String) : jPL RJ14 nm 31 27 1 (.object "java/lang/String") := ⟨RJ44, TJ44, 6, "java/lang/Throwable", rfl, by decide, Or.inl ⟨Or.inl q756, rfl⟩, Or.inl rfl, by decide +kernel⟩
theorem fl_J14_31_J45 : jFL RJ14 31 28 1 := ⟨RJ45, TJ45, 6, "java/lang/Throwable", rfl, by decide, Or.inl q756, Or.inl rfl⟩
theorem pl_J14_31_J45 (nm : String) : jPL RJ14 nm 31 28 1 (.object "java/lang/String") := ⟨RJ45, TJ45, 6, "java/lang/Throwable", rfl, by decide, Or.inl ⟨Or.inl q756, rfl⟩, Or.inl rfl, by decide +kernel⟩
theorem fl_J14_31_J46 : jFL RJ14 31 29 1 := ⟨RJ46, TJ46, 6, "java/lang/Throwable", rfl, by decide, Or.inl q756, Or.inl rfl⟩
theorem pl_J14_31_J46 (nm : String) : jPL RJ14 nm 31 29 1 (.object "java/lang/String") := ⟨RJ46, TJ46, 6, "java/lang/Throwable", rfl, by decide, Or.inl ⟨Or.inl q756, rfl⟩, Or.inl rfl, by decide +kernel⟩
theorem lk_J14_35_X11 : jLkV RJ14 35 yJ14_toString RX11 0 := ⟨q1028, q1029, q1031, ⟨by decide, by decide⟩, jNp_of (by decide +kernel)⟩
abbrev wJ14_toString : List Cond := ws_ yJ14_toString cJ14_toString 3 ((Option.some (.object "java/lang/String")))
theorem ce_J14_toString : jCe yJ14_toString cJ14_toString 3 ((Option.some (.object "java/lang/String"))) := ⟨q1041, q89, by decide⟩
theorem st_J14_toString {K : JK} {l : Launch} {lv : Nat} {av : List Value} {h0 : JIH} {QR : JQR} {QX : JQX} (F : JF K) {ls : List (Option Value)} (hls : jent av 3 = ls) (hn : (jsl av).length ≤ 3 := by first | exact Nat.le_of_ble_eq_true rfl | (simp [jsl, jcat_v]; done)) (body : ∀ M : JM, JX M K l cJ14_toString RJ14 3 ((Option.some (.object "java/lang/String"))) "toString" [] lv h0 QR QX → J M h0 0 ls []) : Ct K l yJ14_toString wJ14_toString lv av h0 QR QX := Ct.start F (by decide +kernel) hn hls body
theorem lk_J14_35_J36 : jLkV RJ14 35 yJ14_toString RJ36 0 := ⟨q1028, q1029, q1038, ⟨by decide, by decide⟩, jNp_of (by decide +kernel)⟩
theorem lk_J14_35_J22 : jLkV RJ14 35 yJ14_toString RJ22 0 := ⟨q1028, q1029, q1037, ⟨by decide, by decide⟩, jNp_of (by decide +kernel)⟩
theorem lk_J14_35_J44 : jLkV RJ14 35 yJ14_toString RJ44 0 := ⟨q1028, q1029, q1034, ⟨by decide, by decide⟩, jNp_of (by decide +kernel)⟩
theorem lk_J14_35_J45 : jLkV RJ14 35 yJ14_toString RJ45 0 := ⟨q1028, q1029, q1033, ⟨by decide, by decide⟩, jNp_of (by decide +kernel)⟩
theorem lk_J14_35_J46 : jLkV RJ14 35 yJ14_toString RJ46 0 := ⟨q1028, q1029, q1032, ⟨by decide, by decide⟩, jNp_of (by decide +kernel)⟩
theorem lk_J14_78_X11 : jLkV RJ14 78 yJ14_getLocalizedMessage RX11 0 := ⟨q1087, q1088, q1090, ⟨by decide, by decide⟩, jNp_of (by decide +kernel)⟩
abbrev wJ14_getLocalizedMessage : List Cond := ws_ yJ14_getLocalizedMessage cJ14_getLocalizedMessage 1 ((Option.some (.object "java/lang/String")))
theorem ce_J14_getLocalizedMessage : jCe yJ14_getLocalizedMessage cJ14_getLocalizedMessage 1 ((Option.some (.object "java/lang/String"))) := ⟨q1100, q89, by decide⟩
theorem st_J14_getLocalizedMessage {K : JK} {l : Launch} {lv : Nat} {av : List Value} {h0 : JIH} {QR : JQR} {QX : JQX} (F : JF K) {ls : List (Option Value)} (hls : jent av 1 = ls) (hn : (jsl av).length ≤ 1 := by first | exact Nat.le_of_ble_eq_true rfl | (simp [jsl, jcat_v]; done)) (body : ∀ M : JM, JX M K l cJ14_getLocalizedMessage RJ14 1 ((Option.some (.object "java/lang/String"))) "getLocalizedMessage" [] lv h0 QR QX → J M h0 0 ls []) : Ct K l yJ14_getLocalizedMessage wJ14_getLocalizedMessage lv av h0 QR QX := Ct.start F (by decide +kernel) hn hls body
theorem lk_J14_78_J36 : jLkV RJ14 78 yJ14_getLocalizedMessage RJ36 0 := ⟨q1087, q1088, q1097, ⟨by decide, by decide⟩, jNp_of (by decide +kernel)⟩
theorem lk_J14_78_J22 : jLkV RJ14 78 yJ14_getLocalizedMessage RJ22 0 := ⟨q1087, q1088, q1096, ⟨by decide, by decide⟩, jNp_of (by decide +kernel)⟩
theorem lk_J14_78_J44 : jLkV RJ14 78 yJ14_getLocalizedMessage RJ44 0 := ⟨q1087, q1088, q1093, ⟨by decide, by decide⟩, jNp_of (by decide +kernel)⟩
theorem lk_J14_78_J45 : jLkV RJ14 78 yJ14_getLocalizedMessage RJ45 0 := ⟨q1087, q1088, q1092, ⟨by decide, by decide⟩, jNp_of (by decide +kernel)⟩
theorem lk_J14_78_J46 : jLkV RJ14 78 yJ14_getLocalizedMessage RJ46 0 := ⟨q1087, q1088, q1091, ⟨by decide, by decide⟩, jNp_of (by decide +kernel)⟩
theorem cl_J14_44 : jCL RJ14 44 "java/lang/StringBuilder" := q1120
theorem lk_J14_39_X11 : jLkV RJ14 39 yJ14_getMessage RX11 0 := ⟨q1101, q1102, q1104, ⟨by decide, by decide⟩, jNp_of (by decide +kernel)⟩
abbrev wJ14_getMessage : List Cond := ws_ yJ14_getMessage cJ14_getMessage 1 ((Option.some (.object "java/lang/String")))
theorem ce_J14_getMessage : jCe yJ14_getMessage cJ14_getMessage 1 ((Option.some (.object "java/lang/String"))) := ⟨q1119, q89, by decide⟩
theorem st_J14_getMessage {K : JK} {l : Launch} {lv : Nat} {av : List Value} {h0 : JIH} {QR : JQR} {QX : JQX} (F : JF K) {ls : List (Option Value)} (hls : jent av 1 = ls) (hn : (jsl av).length ≤ 1 := by first | exact Nat.le_of_ble_eq_true rfl | (simp [jsl, jcat_v]; done)) (body : ∀ M : JM, JX M K l cJ14_getMessage RJ14 1 ((Option.some (.object "java/lang/String"))) "getMessage" [] lv h0 QR QX → J M h0 0 ls []) : Ct K l yJ14_getMessage wJ14_getMessage lv av h0 QR QX := Ct.start F (by decide +kernel) hn hls body
theorem lk_J14_39_J36 : jLkU RJ14 39 ⟨"java/lang/Throwable", "getMessage", "()Ljava/lang/String;"⟩ yJ36_getMessage RJ36 0 := ⟨"java/lang/Throwable", q1101, q1103, Or.inl q1116, ⟨by decide, by decide⟩, q1111, q1112, jNp_of (by decide +kernel)⟩
abbrev hxJ36_getMessage : List (Nat × Nat × Nat × Nat) := [(13, 40, 41, 0), (41, 44, 41, 0)]
abbrev wJ36_getMessage : List Cond := wsW_ yJ36_getMessage cJ36_getMessage 4 (Option.some (.object "java/lang/String")) hxJ36_getMessage
theorem ce_J36_getMessage : jCeW yJ36_getMessage cJ36_getMessage 4 (Option.some (.object "java/lang/String")) hxJ36_getMessage := ⟨q1113, q116, by decide⟩
theorem st_J36_getMessage {K : JK} {l : Launch} {lv : Nat} {av : List Value} {h0 : JIH} {QR : JQR} {QX : JQX} (F : JF K) {ls : List (Option Value)} (hls : jent av 4 = ls) (hn : (jsl av).length ≤ 4 := by first | exact Nat.le_of_ble_eq_true rfl | (simp [jsl, jcat_v]; done)) (body : ∀ M : JM, JX M K l cJ36_getMessage RJ36 4 (Option.some (.object "java/lang/String")) "getMessage" hxJ36_getMessage lv h0 QR QX → J M h0 0 ls []) : Ct K l yJ36_getMessage wJ36_getMessage lv av h0 QR QX := Ct.startH F (by decide +kernel) hn hls body
theorem lk_J14_39_J22 : jLkV RJ14 39 yJ14_getMessage RJ22 0 := ⟨q1101, q1102, q1110, ⟨by decide, by decide⟩, jNp_of (by decide +kernel)⟩
theorem lk_J14_39_J44 : jLkV RJ14 39 yJ14_getMessage RJ44 0 := ⟨q1101, q1102, q1107, ⟨by decide, by decide⟩, jNp_of (by decide +kernel)⟩
theorem lk_J14_39_J45 : jLkV RJ14 39 yJ14_getMessage RJ45 0 := ⟨q1101, q1102, q1106, ⟨by decide, by decide⟩, jNp_of (by decide +kernel)⟩
theorem lk_J14_39_J46 : jLkV RJ14 39 yJ14_getMessage RJ46 0 := ⟨q1101, q1102, q1105, ⟨by decide, by decide⟩, jNp_of (by decide +kernel)⟩
theorem lk_J15_1 : jLkI RJ15 1 yJ14_init 0 := ⟨rfl, q754, q677, ⟨by decide, by decide⟩, jNp_of (by decide +kernel)⟩
abbrev wJ14_init : List Cond := ws_ yJ14_init cJ14_init 1 (none)
theorem ce_J14_init : jCe yJ14_init cJ14_init 1 (none) := ⟨q678, q89, by decide⟩
theorem st_J14_init {K : JK} {l : Launch} {lv : Nat} {av : List Value} {h0 : JIH} {QR : JQR} {QX : JQX} (F : JF K) {ls : List (Option Value)} (hls : jent av 1 = ls) (hn : (jsl av).length ≤ 1 := by first | exact Nat.le_of_ble_eq_true rfl | (simp [jsl, jcat_v]; done)) (body : ∀ M : JM, JX M K l cJ14_init RJ14 1 (none) "<init>" [] lv h0 QR QX → J M h0 0 ls []) : Ct K l yJ14_init wJ14_init lv av h0 QR QX := Ct.start F (by decide +kernel) hn hls body
theorem lk_J15_7 : jLkI RJ15 7 yJ14_init_2 1 := ⟨rfl, q998, q999, ⟨by decide, by decide⟩, jNp_of (by decide +kernel)⟩
abbrev wJ14_init_2 : List Cond := ws_ yJ14_init_2 cJ14_init_2 2 (none)
theorem ce_J14_init_2 : jCe yJ14_init_2 cJ14_init_2 2 (none) := ⟨q1000, q89, by decide⟩
theorem st_J14_init_2 {K : JK} {l : Launch} {lv : Nat} {av : List Value} {h0 : JIH} {QR : JQR} {QX : JQX} (F : JF K) {ls : List (Option Value)} (hls : jent av 2 = ls) (hn : (jsl av).length ≤ 2 := by first | exact Nat.le_of_ble_eq_true rfl | (simp [jsl, jcat_v]; done)) (body : ∀ M : JM, JX M K l cJ14_init_2 RJ14 2 (none) "<init>" [] lv h0 QR QX → J M h0 0 ls []) : Ct K l yJ14_init_2 wJ14_init_2 lv av h0 QR QX := Ct.start F (by decide +kernel) hn hls body
theorem lk_J15_13 : jLkI RJ15 13 yJ14_init_3 1 := ⟨rfl, q1025, q1026, ⟨by decide, by decide⟩, jNp_of (by decide +kernel)⟩
abbrev wJ14_init_3 : List Cond := ws_ yJ14_init_3 cJ14_init_3 2 (none)
theorem ce_J14_init_3 : jCe yJ14_init_3 cJ14_init_3 2 (none) := ⟨q1027, q89, by decide⟩
theorem st_J14_init_3 {K : JK} {l : Launch} {lv : Nat} {av : List Value} {h0 : JIH} {QR : JQR} {QX : JQX} (F : JF K) {ls : List (Option Value)} (hls : jent av 2 = ls) (hn : (jsl av).length ≤ 2 := by first | exact Nat.le_of_ble_eq_true rfl | (simp [jsl, jcat_v]; done)) (body : ∀ M : JM, JX M K l cJ14_init_3 RJ14 2 (none) "<init>" [] lv h0 QR QX → J M h0 0 ls []) : Ct K l yJ14_init_3 wJ14_init_3 lv av h0 QR QX := Ct.start F (by decide +kernel) hn hls body
theorem lk_J16_1 : jLkI RJ16 1 yJ15_init 0 := ⟨rfl, q751, q752, ⟨by decide, by decide⟩, jNp_of (by decide +kernel)⟩
abbrev wJ15_init : List Cond := ws_ yJ15_init cJ15_init 1 (none)
theorem ce_J15_init : jCe yJ15_init cJ15_init 1 (none) := ⟨q753, q90, by decide⟩
theorem st_J15_init {K : JK} {l : Launch} {lv : Nat} {av : List Value} {h0 : JIH} {QR : JQR} {QX : JQX} (F : JF K) {ls : List (Option Value)} (hls : jent av 1 = ls) (hn : (jsl av).length ≤ 1 := by first | exact Nat.le_of_ble_eq_true rfl | (simp [jsl, jcat_v]; done)) (body : ∀ M : JM, JX M K l cJ15_init RJ15 1 (none) "<init>" [] lv h0 QR QX → J M h0 0 ls []) : Ct K l yJ15_init wJ15_init lv av h0 QR QX := Ct.start F (by decide +kernel) hn hls body
theorem lk_J16_7 : jLkI RJ16 7 yJ15_init_2 1 := ⟨rfl, q995, q996, ⟨by decide, by decide⟩, jNp_of (by decide +kernel)⟩
abbrev wJ15_init_2 : List Cond := ws_ yJ15_init_2 cJ15_init_2 2 (none)
theorem ce_J15_init_2 : jCe yJ15_init_2 cJ15_init_2 2 (none) := ⟨q997, q90, by decide⟩
theorem st_J15_init_2 {K : JK} {l : Launch} {lv : Nat} {av : List Value} {h0 : JIH} {QR : JQR} {QX : JQX} (F : JF K) {ls : List (Option Value)} (hls : jent av 2 = ls) (hn : (jsl av).length ≤ 2 := by first | exact Nat.le_of_ble_eq_true rfl | (simp [jsl, jcat_v]; done)) (body : ∀ M : JM, JX M K l cJ15_init_2 RJ15 2 (none) "<init>" [] lv h0 QR QX → J M h0 0 ls []) : Ct K l yJ15_init_2 wJ15_init_2 lv av h0 QR QX := Ct.start F (by decide +kernel) hn hls body
theorem lk_J16_13 : jLkI RJ16 13 yJ15_init_3 1 := ⟨rfl, q1022, q1023, ⟨by decide, by decide⟩, jNp_of (by decide +kernel)⟩
abbrev wJ15_init_3 : List Cond := ws_ yJ15_init_3 cJ15_init_3 2 (none)
theorem ce_J15_init_3 : jCe yJ15_init_3 cJ15_init_3 2 (none) := ⟨q1024, q90, by decide⟩
theorem st_J15_init_3 {K : JK} {l : Launch} {lv : Nat} {av : List Value} {h0 : JIH} {QR : JQR} {QX : JQX} (F : JF K) {ls : List (Option Value)} (hls : jent av 2 = ls) (hn : (jsl av).length ≤ 2 := by first | exact Nat.le_of_ble_eq_true rfl | (simp [jsl, jcat_v]; done)) (body : ∀ M : JM, JX M K l cJ15_init_3 RJ15 2 (none) "<init>" [] lv h0 QR QX → J M h0 0 ls []) : Ct K l yJ15_init_3 wJ15_init_3 lv av h0 QR QX := Ct.start F (by decide +kernel) hn hls body
theorem lk_J17_7 : jLkI RJ17 7 yJ16_init_2 1 := ⟨rfl, q992, q993, ⟨by decide, by decide⟩, jNp_of (by decide +kernel)⟩
abbrev wJ16_init_2 : List Cond := ws_ yJ16_init_2 cJ16_init_2 2 (none)
theorem ce_J16_init_2 : jCe yJ16_init_2 cJ16_init_2 2 (none) := ⟨q994, q91, by decide⟩
theorem st_J16_init_2 {K : JK} {l : Launch} {lv : Nat} {av : List Value} {h0 : JIH} {QR : JQR} {QX : JQX} (F : JF K) {ls : List (Option Value)} (hls : jent av 2 = ls) (hn : (jsl av).length ≤ 2 := by first | exact Nat.le_of_ble_eq_true rfl | (simp [jsl, jcat_v]; done)) (body : ∀ M : JM, JX M K l cJ16_init_2 RJ16 2 (none) "<init>" [] lv h0 QR QX → J M h0 0 ls []) : Ct K l yJ16_init_2 wJ16_init_2 lv av h0 QR QX := Ct.start F (by decide +kernel) hn hls body
theorem lk_J22_1 : jLkI RJ22 1 yJ16_init 0 := ⟨rfl, q748, q749, ⟨by decide, by decide⟩, jNp_of (by decide +kernel)⟩
abbrev wJ16_init : List Cond := ws_ yJ16_init cJ16_init 1 (none)
theorem ce_J16_init : jCe yJ16_init cJ16_init 1 (none) := ⟨q750, q91, by decide⟩
theorem st_J16_init {K : JK} {l : Launch} {lv : Nat} {av : List Value} {h0 : JIH} {QR : JQR} {QX : JQX} (F : JF K) {ls : List (Option Value)} (hls : jent av 1 = ls) (hn : (jsl av).length ≤ 1 := by first | exact Nat.le_of_ble_eq_true rfl | (simp [jsl, jcat_v]; done)) (body : ∀ M : JM, JX M K l cJ16_init RJ16 1 (none) "<init>" [] lv h0 QR QX → J M h0 0 ls []) : Ct K l yJ16_init wJ16_init lv av h0 QR QX := Ct.start F (by decide +kernel) hn hls body
theorem lk_J22_7 : jLkI RJ22 7 yJ16_init_2 1 := ⟨rfl, q2662, q993, ⟨by decide, by decide⟩, jNp_of (by decide +kernel)⟩
theorem cl_J24_311 : jCL RJ24 311 "[B" := q822
theorem lk_J24_304 : jLkS RJ24 304 yJ8_min 2 := ⟨q823, q494, ⟨by decide, by decide⟩, jNp_of (by decide +kernel)⟩
theorem lk_J24_339 : jLkS RJ24 339 yJ24_copyOfRangeByte 3 := ⟨q957, q958, ⟨by decide, by decide⟩, jNp_of (by decide +kernel)⟩
abbrev wJ24_copyOfRangeByte : List Cond := ws_ yJ24_copyOfRangeByte cJ24_copyOfRangeByte 5 ((Option.some (.array .byte)))
theorem ce_J24_copyOfRangeByte : jCe yJ24_copyOfRangeByte cJ24_copyOfRangeByte 5 ((Option.some (.array .byte))) := ⟨q959, q99, by decide⟩
theorem st_J24_copyOfRangeByte {K : JK} {l : Launch} {lv : Nat} {av : List Value} {h0 : JIH} {QR : JQR} {QX : JQX} (F : JF K) {ls : List (Option Value)} (hls : jent av 5 = ls) (hn : (jsl av).length ≤ 5 := by first | exact Nat.le_of_ble_eq_true rfl | (simp [jsl, jcat_v]; done)) (body : ∀ M : JM, JX M K l cJ24_copyOfRangeByte RJ24 5 ((Option.some (.array .byte))) "copyOfRangeByte" [] lv h0 QR QX → J M h0 0 ls []) : Ct K l yJ24_copyOfRangeByte wJ24_copyOfRangeByte lv av h0 QR QX := Ct.start F (by decide +kernel) hn hls body
theorem lk_J24_343 : jLkS RJ24 343 yJ24_checkLength 2 := ⟨q960, q961, ⟨by decide, by decide⟩, jNp_of (by decide +kernel)⟩
abbrev wJ24_checkLength : List Cond := ws_ yJ24_checkLength cJ24_checkLength 2 (none)
theorem ce_J24_checkLength : jCe yJ24_checkLength cJ24_checkLength 2 (none) := ⟨q962, q99, by decide⟩
theorem st_J24_checkLength {K : JK} {l : Launch} {lv : Nat} {av : List Value} {h0 : JIH} {QR : JQR} {QX : JQX} (F : JF K) {ls : List (Option Value)} (hls : jent av 2 = ls) (hn : (jsl av).length ≤ 2 := by first | exact Nat.le_of_ble_eq_true rfl | (simp [jsl, jcat_v]; done)) (body : ∀ M : JM, JX M K l cJ24_checkLength RJ24 2 (none) "checkLength" [] lv h0 QR QX → J M h0 0 ls []) : Ct K l yJ24_checkLength wJ24_checkLength lv av h0 QR QX := Ct.start F (by decide +kernel) hn hls body
theorem lk_J24_300 : jLkS RJ24 300 yJ24_copyOf_3 3 := ⟨q1958, q1959, ⟨by decide, by decide⟩, jNp_of (by decide +kernel)⟩
abbrev wJ24_copyOf_3 : List Cond := ws_ yJ24_copyOf_3 cJ24_copyOf_3 4 ((Option.some (.array (.object "java/lang/Object"))))
theorem ce_J24_copyOf_3 : jCe yJ24_copyOf_3 cJ24_copyOf_3 4 ((Option.some (.array (.object "java/lang/Object")))) := ⟨q1960, q99, by decide⟩
theorem st_J24_copyOf_3 {K : JK} {l : Launch} {lv : Nat} {av : List Value} {h0 : JIH} {QR : JQR} {QX : JQX} (F : JF K) {ls : List (Option Value)} (hls : jent av 4 = ls) (hn : (jsl av).length ≤ 4 := by first | exact Nat.le_of_ble_eq_true rfl | (simp [jsl, jcat_v]; done)) (body : ∀ M : JM, JX M K l cJ24_copyOf_3 RJ24 4 ((Option.some (.array (.object "java/lang/Object")))) "copyOf" [] lv h0 QR QX → J M h0 0 ls []) : Ct K l yJ24_copyOf_3 wJ24_copyOf_3 lv av h0 QR QX := Ct.start F (by decide +kernel) hn hls body
theorem cl_J24_2 : jCL RJ24 2 "java/lang/Object" := q1962
theorem cl_J24_110 : jCL RJ24 110 "[Ljava/lang/Object;" := q1961
theorem fl_J36_10_J36 : jFL RJ36 10 25 6 := ⟨RJ36, TJ36, 8, "java/lang/NullPointerException", rfl, by decide, Or.inl q1937, Or.inl rfl⟩
theorem fl_J36_20_J36 : jFL RJ36 20 25 7 := ⟨RJ36, TJ36, 8, "java/lang/NullPointerException", rfl, by decide, Or.inl q1938, Or.inl rfl⟩
theorem pl_J36_20_J36 (nm : String) : jPL RJ36 nm 20 25 7 (.object "java/lang/String") := ⟨RJ36, TJ36, 8, "java/lang/NullPointerException", rfl, by decide, Or.inl ⟨Or.inl q1938, rfl⟩, Or.inl rfl, by decide +kernel⟩
theorem pl_J36_10_J36 (nm : String) : jPL RJ36 nm 10 25 6 (.int) := ⟨RJ36, TJ36, 8, "java/lang/NullPointerException", rfl, by decide, Or.inl ⟨Or.inl q1937, rfl⟩, Or.inl rfl, by decide +kernel⟩
theorem lk_J36_1 : jLkI RJ36 1 yJ16_init 0 := ⟨rfl, q1936, q749, ⟨by decide, by decide⟩, jNp_of (by decide +kernel)⟩
theorem lk_J44_7 : jLkI RJ44 7 yJ16_init_2 1 := ⟨rfl, q2584, q993, ⟨by decide, by decide⟩, jNp_of (by decide +kernel)⟩
theorem lk_J45_7 : jLkI RJ45 7 yJ16_init_2 1 := ⟨rfl, q2705, q993, ⟨by decide, by decide⟩, jNp_of (by decide +kernel)⟩
theorem lk_J46_7 : jLkI RJ46 7 yJ17_init 1 := ⟨rfl, q2719, q990, ⟨by decide, by decide⟩, jNp_of (by decide +kernel)⟩
theorem lk_J40_28_J7 : jLkU RJ40 28 ⟨"java/util/AbstractList", "size", "()I"⟩ yJ7_size RJ7 0 := ⟨"java/util/AbstractCollection", q596, q597, Or.inl q598, ⟨by decide, by decide⟩, q599, q600, jNp_of (by decide +kernel)⟩
abbrev wJ7_size : List Cond := ws_ yJ7_size cJ7_size 1 ((some .int))
theorem ce_J7_size : jCe yJ7_size cJ7_size 1 ((some .int)) := ⟨q601, q80, by decide⟩
theorem st_J7_size {K : JK} {l : Launch} {lv : Nat} {av : List Value} {h0 : JIH} {QR : JQR} {QX : JQX} (F : JF K) {ls : List (Option Value)} (hls : jent av 1 = ls) (hn : (jsl av).length ≤ 1 := by first | exact Nat.le_of_ble_eq_true rfl | (simp [jsl, jcat_v]; done)) (body : ∀ M : JM, JX M K l cJ7_size RJ7 1 ((some .int)) "size" [] lv h0 QR QX → J M h0 0 ls []) : Ct K l yJ7_size wJ7_size lv av h0 QR QX := Ct.start F (by decide +kernel) hn hls body
theorem lk_J40_35_J7 : jLkU RJ40 35 ⟨"java/util/AbstractList", "get", "(I)Ljava/lang/Object;"⟩ yJ7_get RJ7 1 := ⟨"java/util/AbstractList", q640, q642, Or.inl q641, ⟨by decide, by decide⟩, q643, q644, jNp_of (by decide +kernel)⟩
abbrev wJ7_get : List Cond := ws_ yJ7_get cJ7_get 2 ((Option.some (.object "java/lang/Object")))
theorem ce_J7_get : jCe yJ7_get cJ7_get 2 ((Option.some (.object "java/lang/Object"))) := ⟨q645, q80, by decide⟩
theorem st_J7_get {K : JK} {l : Launch} {lv : Nat} {av : List Value} {h0 : JIH} {QR : JQR} {QX : JQX} (F : JF K) {ls : List (Option Value)} (hls : jent av 2 = ls) (hn : (jsl av).length ≤ 2 := by first | exact Nat.le_of_ble_eq_true rfl | (simp [jsl, jcat_v]; done)) (body : ∀ M : JM, JX M K l cJ7_get RJ7 2 ((Option.some (.object "java/lang/Object"))) "get" [] lv h0 QR QX → J M h0 0 ls []) : Ct K l yJ7_get wJ7_get lv av h0 QR QX := Ct.start F (by decide +kernel) hn hls body
theorem cl_J40_41 : jCL RJ40 41 "java/util/NoSuchElementException" := q1007
theorem fl_J40_20_J7 : jFL RJ40 20 16 0 := ⟨RJ7, TJ7, 4, "java/util/AbstractList", rfl, by decide, Or.inl q408, Or.inl rfl⟩
theorem cl_J40_52 : jCL RJ40 52 "java/util/ConcurrentModificationException" := q1267
theorem cl_J40_46 : jCL RJ40 46 "java/lang/IllegalStateException" := q1241
theorem lk_J40_49_J7 : jLkU RJ40 49 ⟨"java/util/AbstractList", "remove", "(I)Ljava/lang/Object;"⟩ yJ7_remove RJ7 1 := ⟨"java/util/AbstractList", q1256, q1258, Or.inl q1266, ⟨by decide, by decide⟩, q1259, q1260, jNp_of (by decide +kernel)⟩
abbrev wJ7_remove : List Cond := ws_ yJ7_remove cJ7_remove 2 ((Option.some (.object "java/lang/Object")))
theorem ce_J7_remove : jCe yJ7_remove cJ7_remove 2 ((Option.some (.object "java/lang/Object"))) := ⟨q1261, q80, by decide⟩
theorem st_J7_remove {K : JK} {l : Launch} {lv : Nat} {av : List Value} {h0 : JIH} {QR : JQR} {QX : JQX} (F : JF K) {ls : List (Option Value)} (hls : jent av 2 = ls) (hn : (jsl av).length ≤ 2 := by first | exact Nat.le_of_ble_eq_true rfl | (simp [jsl, jcat_v]; done)) (body : ∀ M : JM, JX M K l cJ7_remove RJ7 2 ((Option.some (.object "java/lang/Object"))) "remove" [] lv h0 QR QX → J M h0 0 ls []) : Ct K l yJ7_remove wJ7_remove lv av h0 QR QX := Ct.start F (by decide +kernel) hn hls body
theorem lk_X0_9 : Cond.methodLink RX0 9 objectInit ∈ lw_all := q137
theorem cl_X0_15 : jCL RX0 15 "SegmentedCache$Cache" := q140
theorem lk_X0_17 : jLkIN RX0 17 yX1_init 0 := ⟨rfl, ⟨_, q142⟩, q143, ⟨by decide, by decide⟩, jNp_of (by decide +kernel)⟩
abbrev wX1_init : List Cond := ws_ yX1_init cX1_init 1 (none)
theorem ce_X1_init : jCe yX1_init cX1_init 1 (none) := ⟨q144, q70, by decide⟩
theorem st_X1_init {K : JK} {l : Launch} {lv : Nat} {av : List Value} {h0 : JIH} {QR : JQR} {QX : JQX} (F : JF K) {ls : List (Option Value)} (hls : jent av 1 = ls) (hn : (jsl av).length ≤ 1 := by first | exact Nat.le_of_ble_eq_true rfl | (simp [jsl, jcat_v]; done)) (body : ∀ M : JM, JX M K l cX1_init RX1 1 (none) "<init>" [] lv h0 QR QX → J M h0 0 ls []) : Ct K l yX1_init wX1_init lv av h0 QR QX := Ct.start F (by decide +kernel) hn hls body
theorem fl_X0_18_X0 : jFL RX0 18 0 0 := ⟨RX0, TX0, 15, "SegmentedCache", rfl, by decide, Or.inl q434, Or.inl rfl⟩
theorem pl_X0_18_X0 : jPL RX0 "<init>" 18 0 0 (.object "SegmentedCache$Cache") := ⟨RX0, TX0, 15, "SegmentedCache", rfl, by decide, Or.inr ⟨q434, rfl, rfl, rfl⟩, Or.inl rfl, by decide +kernel⟩
theorem cl_X0_22 : jCL RX0 22 "SegmentedCache$Sketch" := q317
theorem lk_X0_24 : jLkIN RX0 24 yX3_init 0 := ⟨rfl, ⟨_, q319⟩, q320, ⟨by decide, by decide⟩, jNp_of (by decide +kernel)⟩
abbrev wX3_init : List Cond := ws_ yX3_init cX3_init 1 (none)
theorem ce_X3_init : jCe yX3_init cX3_init 1 (none) := ⟨q321, q77, by decide⟩
theorem st_X3_init {K : JK} {l : Launch} {lv : Nat} {av : List Value} {h0 : JIH} {QR : JQR} {QX : JQX} (F : JF K) {ls : List (Option Value)} (hls : jent av 1 = ls) (hn : (jsl av).length ≤ 1 := by first | exact Nat.le_of_ble_eq_true rfl | (simp [jsl, jcat_v]; done)) (body : ∀ M : JM, JX M K l cX3_init RX3 1 (none) "<init>" [] lv h0 QR QX → J M h0 0 ls []) : Ct K l yX3_init wX3_init lv av h0 QR QX := Ct.start F (by decide +kernel) hn hls body
theorem fl_X0_25_X0 : jFL RX0 25 0 1 := ⟨RX0, TX0, 15, "SegmentedCache", rfl, by decide, Or.inl q435, Or.inl rfl⟩
theorem pl_X0_25_X0 : jPL RX0 "<init>" 25 0 1 (.object "SegmentedCache$Sketch") := ⟨RX0, TX0, 15, "SegmentedCache", rfl, by decide, Or.inr ⟨q435, rfl, rfl, rfl⟩, Or.inl rfl, by decide +kernel⟩
theorem fl_X0_29_X0 : jFL RX0 29 0 2 := ⟨RX0, TX0, 15, "SegmentedCache", rfl, by decide, Or.inl q436, Or.inl rfl⟩
theorem pl_X0_29_X0 : jPL RX0 "<init>" 29 0 2 (.object "SegmentedCache$Sketch") := ⟨RX0, TX0, 15, "SegmentedCache", rfl, by decide, Or.inr ⟨q436, rfl, rfl, rfl⟩, Or.inl rfl, by decide +kernel⟩
theorem fl_X0_32_X0 : jFL RX0 32 0 3 := ⟨RX0, TX0, 15, "SegmentedCache", rfl, by decide, Or.inl q437, Or.inl rfl⟩
theorem pl_X0_32_X0 : jPL RX0 "<init>" 32 0 3 (.array (.byte)) := ⟨RX0, TX0, 15, "SegmentedCache", rfl, by decide, Or.inr ⟨q437, rfl, rfl, rfl⟩, Or.inl rfl, by decide +kernel⟩
theorem cl_X0_36 : jCL RX0 36 "java/util/LinkedList" := q389
theorem lk_X0_38 : jLkI RX0 38 yJ7_init 0 := ⟨rfl, q391, q392, ⟨by decide, by decide⟩, jNp_of (by decide +kernel)⟩
abbrev wJ7_init : List Cond := ws_ yJ7_init cJ7_init 1 (none)
theorem ce_J7_init : jCe yJ7_init cJ7_init 1 (none) := ⟨q393, q80, by decide⟩
theorem st_J7_init {K : JK} {l : Launch} {lv : Nat} {av : List Value} {h0 : JIH} {QR : JQR} {QX : JQX} (F : JF K) {ls : List (Option Value)} (hls : jent av 1 = ls) (hn : (jsl av).length ≤ 1 := by first | exact Nat.le_of_ble_eq_true rfl | (simp [jsl, jcat_v]; done)) (body : ∀ M : JM, JX M K l cJ7_init RJ7 1 (none) "<init>" [] lv h0 QR QX → J M h0 0 ls []) : Ct K l yJ7_init wJ7_init lv av h0 QR QX := Ct.start F (by decide +kernel) hn hls body
theorem fl_X0_39_X0 : jFL RX0 39 0 5 := ⟨RX0, TX0, 15, "SegmentedCache", rfl, by decide, Or.inl q439, Or.inl rfl⟩
theorem pl_X0_39_X0 : jPL RX0 "<init>" 39 0 5 (.object "java/util/LinkedList") := ⟨RX0, TX0, 15, "SegmentedCache", rfl, by decide, Or.inr ⟨q439, rfl, rfl, rfl⟩, Or.inl rfl, by decide +kernel⟩
theorem cl_X0_43 : jCL RX0 43 "SegmentedCache$Key" := q420
theorem fl_X0_45_X0 : jFL RX0 45 0 6 := ⟨RX0, TX0, 15, "SegmentedCache", rfl, by decide, Or.inl q440, Or.inl rfl⟩
theorem pl_X0_45_X0 : jPL RX0 "<init>" 45 0 6 (.array (.object "SegmentedCache$Key")) := ⟨RX0, TX0, 15, "SegmentedCache", rfl, by decide, Or.inr ⟨q440, rfl, rfl, rfl⟩, Or.inl rfl, by decide +kernel⟩
theorem fl_X0_49_X0 : jFL RX0 49 0 7 := ⟨RX0, TX0, 15, "SegmentedCache", rfl, by decide, Or.inl q441, Or.inl rfl⟩
theorem pl_X0_49_X0 : jPL RX0 "<init>" 49 0 7 (.array (.int)) := ⟨RX0, TX0, 15, "SegmentedCache", rfl, by decide, Or.inr ⟨q441, rfl, rfl, rfl⟩, Or.inl rfl, by decide +kernel⟩
theorem cl_X0_53 : jCL RX0 53 "SegmentedCache$Tape" := q422
theorem fl_X0_55_X0 : jFL RX0 55 0 9 := ⟨RX0, TX0, 15, "SegmentedCache", rfl, by decide, Or.inl q443, Or.inl rfl⟩
theorem pl_X0_55_X0 : jPL RX0 "<init>" 55 0 9 (.array (.object "SegmentedCache$Tape")) := ⟨RX0, TX0, 15, "SegmentedCache", rfl, by decide, Or.inr ⟨q443, rfl, rfl, rfl⟩, Or.inl rfl, by decide +kernel⟩
theorem lk_X0_59 : jLkIN RX0 59 yX4_init 0 := ⟨rfl, ⟨_, q425⟩, q426, ⟨by decide, by decide⟩, jNp_of (by decide +kernel)⟩
abbrev wX4_init : List Cond := ws_ yX4_init cX4_init 1 (none)
theorem ce_X4_init : jCe yX4_init cX4_init 1 (none) := ⟨q427, q81, by decide⟩
theorem st_X4_init {K : JK} {l : Launch} {lv : Nat} {av : List Value} {h0 : JIH} {QR : JQR} {QX : JQX} (F : JF K) {ls : List (Option Value)} (hls : jent av 1 = ls) (hn : (jsl av).length ≤ 1 := by first | exact Nat.le_of_ble_eq_true rfl | (simp [jsl, jcat_v]; done)) (body : ∀ M : JM, JX M K l cX4_init RX4 1 (none) "<init>" [] lv h0 QR QX → J M h0 0 ls []) : Ct K l yX4_init wX4_init lv av h0 QR QX := Ct.start F (by decide +kernel) hn hls body
theorem fl_X0_60_X0 : jFL RX0 60 0 10 := ⟨RX0, TX0, 15, "SegmentedCache", rfl, by decide, Or.inl q444, Or.inl rfl⟩
theorem pl_X0_60_X0 : jPL RX0 "<init>" 60 0 10 (.object "SegmentedCache$Cache") := ⟨RX0, TX0, 15, "SegmentedCache", rfl, by decide, Or.inr ⟨q444, rfl, rfl, rfl⟩, Or.inl rfl, by decide +kernel⟩
theorem fl_X0_63_X0 : jFL RX0 63 0 11 := ⟨RX0, TX0, 15, "SegmentedCache", rfl, by decide, Or.inl q445, Or.inl rfl⟩
theorem pl_X0_63_X0 : jPL RX0 "<init>" 63 0 11 (.array (.object "SegmentedCache$Key")) := ⟨RX0, TX0, 15, "SegmentedCache", rfl, by decide, Or.inr ⟨q445, rfl, rfl, rfl⟩, Or.inl rfl, by decide +kernel⟩
theorem fl_X0_66_X0 : jFL RX0 66 0 12 := ⟨RX0, TX0, 15, "SegmentedCache", rfl, by decide, Or.inl q446, Or.inl rfl⟩
theorem pl_X0_66_X0 : jPL RX0 "<init>" 66 0 12 (.array (.int)) := ⟨RX0, TX0, 15, "SegmentedCache", rfl, by decide, Or.inr ⟨q446, rfl, rfl, rfl⟩, Or.inl rfl, by decide +kernel⟩
theorem lk_X0_5 : jLkS RX0 5 yX0_in 3 := ⟨q484, q485, ⟨by decide, by decide⟩, jNp_of (by decide +kernel)⟩
abbrev wX0_in : List Cond := ws_ yX0_in cX0_in 3 ((some .boolean))
theorem ce_X0_in : jCe yX0_in cX0_in 3 ((some .boolean)) := ⟨q486, q69, by decide⟩
theorem st_X0_in {K : JK} {l : Launch} {lv : Nat} {av : List Value} {h0 : JIH} {QR : JQR} {QX : JQX} (F : JF K) {ls : List (Option Value)} (hls : jent av 3 = ls) (hn : (jsl av).length ≤ 3 := by first | exact Nat.le_of_ble_eq_true rfl | (simp [jsl, jcat_v]; done)) (body : ∀ M : JM, JX M K l cX0_in RX0 3 ((some .boolean)) "in" [] lv h0 QR QX → J M h0 0 ls []) : Ct K l yX0_in wX0_in lv av h0 QR QX := Ct.start F (by decide +kernel) hn hls body
theorem fl_X0_73_X1 : jFL RX0 73 1 0 := ⟨RX1, TX1, 16, "SegmentedCache$Cache", rfl, by decide, Or.inr ⟨_, q250⟩, Or.inl rfl⟩
theorem lk_X0_89_X0 : jLkV RX0 89 yX0_setting RX0 1 := ⟨q489, q491, qs0, ⟨by decide, by decide⟩, jNp_of (by decide +kernel)⟩
abbrev wX0_setting : List Cond := ws_ yX0_setting cX0_setting 2 ((some .int))
theorem ce_X0_setting : jCe yX0_setting cX0_setting 2 ((some .int)) := ⟨q492, q69, by decide⟩
theorem st_X0_setting {K : JK} {l : Launch} {lv : Nat} {av : List Value} {h0 : JIH} {QR : JQR} {QX : JQX} (F : JF K) {ls : List (Option Value)} (hls : jent av 2 = ls) (hn : (jsl av).length ≤ 2 := by first | exact Nat.le_of_ble_eq_true rfl | (simp [jsl, jcat_v]; done)) (body : ∀ M : JM, JX M K l cX0_setting RX0 2 ((some .int)) "setting" [] lv h0 QR QX → J M h0 0 ls []) : Ct K l yX0_setting wX0_setting lv av h0 QR QX := Ct.start F (by decide +kernel) hn hls body
theorem pl_X0_73_X1 (nm : String) : jPL RX0 nm 73 1 0 (.int) := ⟨RX1, TX1, 16, "SegmentedCache$Cache", rfl, by decide, Or.inl ⟨Or.inr ⟨_, q250⟩, rfl⟩, Or.inl rfl, by decide +kernel⟩
theorem fl_X0_77_X1 : jFL RX0 77 1 1 := ⟨RX1, TX1, 16, "SegmentedCache$Cache", rfl, by decide, Or.inr ⟨_, q253⟩, Or.inl rfl⟩
theorem lk_X0_93 : jLkS RX0 93 yJ8_min 2 := ⟨q493, q494, ⟨by decide, by decide⟩, jNp_of (by decide +kernel)⟩
theorem pl_X0_77_X1 (nm : String) : jPL RX0 nm 77 1 1 (.int) := ⟨RX1, TX1, 16, "SegmentedCache$Cache", rfl, by decide, Or.inl ⟨Or.inr ⟨_, q253⟩, rfl⟩, Or.inl rfl, by decide +kernel⟩
theorem fl_X0_80_X1 : jFL RX0 80 1 2 := ⟨RX1, TX1, 16, "SegmentedCache$Cache", rfl, by decide, Or.inr ⟨_, q256⟩, Or.inl rfl⟩
theorem pl_X0_80_X1 (nm : String) : jPL RX0 nm 80 1 2 (.int) := ⟨RX1, TX1, 16, "SegmentedCache$Cache", rfl, by decide, Or.inl ⟨Or.inr ⟨_, q256⟩, rfl⟩, Or.inl rfl, by decide +kernel⟩
theorem fl_X0_83_X1 : jFL RX0 83 1 3 := ⟨RX1, TX1, 16, "SegmentedCache$Cache", rfl, by decide, Or.inr ⟨_, q259⟩, Or.inl rfl⟩
theorem pl_X0_83_X1 (nm : String) : jPL RX0 nm 83 1 3 (.int) := ⟨RX1, TX1, 16, "SegmentedCache$Cache", rfl, by decide, Or.inl ⟨Or.inr ⟨_, q259⟩, rfl⟩, Or.inl rfl, by decide +kernel⟩
theorem lk_X0_99_X1 : jLkV RX0 99 yX1_trims RX1 0 := ⟨q496, q497, q498, ⟨by decide, by decide⟩, jNp_of (by decide +kernel)⟩
abbrev wX1_trims : List Cond := ws_ yX1_trims cX1_trims 2 (none)
theorem ce_X1_trims : jCe yX1_trims cX1_trims 2 (none) := ⟨q499, q70, by decide⟩
theorem st_X1_trims {K : JK} {l : Launch} {lv : Nat} {av : List Value} {h0 : JIH} {QR : JQR} {QX : JQX} (F : JF K) {ls : List (Option Value)} (hls : jent av 2 = ls) (hn : (jsl av).length ≤ 2 := by first | exact Nat.le_of_ble_eq_true rfl | (simp [jsl, jcat_v]; done)) (body : ∀ M : JM, JX M K l cX1_trims RX1 2 (none) "trims" [] lv h0 QR QX → J M h0 0 ls []) : Ct K l yX1_trims wX1_trims lv av h0 QR QX := Ct.start F (by decide +kernel) hn hls body
theorem lk_X0_102_X1 : jLkV RX0 102 yX1_queue RX1 1 := ⟨q1987, q1988, q1989, ⟨by decide, by decide⟩, jNp_of (by decide +kernel)⟩
abbrev wX1_queue : List Cond := ws_ yX1_queue cX1_queue 2 ((Option.some (.object "SegmentedCache$Cache$Queue")))
theorem ce_X1_queue : jCe yX1_queue cX1_queue 2 ((Option.some (.object "SegmentedCache$Cache$Queue"))) := ⟨q1990, q70, by decide⟩
theorem st_X1_queue {K : JK} {l : Launch} {lv : Nat} {av : List Value} {h0 : JIH} {QR : JQR} {QX : JQX} (F : JF K) {ls : List (Option Value)} (hls : jent av 2 = ls) (hn : (jsl av).length ≤ 2 := by first | exact Nat.le_of_ble_eq_true rfl | (simp [jsl, jcat_v]; done)) (body : ∀ M : JM, JX M K l cX1_queue RX1 2 ((Option.some (.object "SegmentedCache$Cache$Queue"))) "queue" [] lv h0 QR QX → J M h0 0 ls []) : Ct K l yX1_queue wX1_queue lv av h0 QR QX := Ct.start F (by decide +kernel) hn hls body
theorem fl_X0_106_X2 : jFL RX0 106 2 1 := ⟨RX2, TX2, 3, "SegmentedCache$Cache$Queue", rfl, by decide, Or.inr ⟨_, q215⟩, Or.inl rfl⟩
theorem fl_X0_111_X1 : jFL RX0 111 1 4 := ⟨RX1, TX1, 16, "SegmentedCache$Cache", rfl, by decide, Or.inr ⟨_, q261⟩, Or.inl rfl⟩
theorem fl_X0_114_X1 : jFL RX0 114 1 5 := ⟨RX1, TX1, 16, "SegmentedCache$Cache", rfl, by decide, Or.inr ⟨_, q263⟩, Or.inl rfl⟩
theorem fl_X0_117_X1 : jFL RX0 117 1 6 := ⟨RX1, TX1, 16, "SegmentedCache$Cache", rfl, by decide, Or.inr ⟨_, q265⟩, Or.inl rfl⟩
theorem fl_X0_120_X1 : jFL RX0 120 1 7 := ⟨RX1, TX1, 16, "SegmentedCache$Cache", rfl, by decide, Or.inr ⟨_, q267⟩, Or.inl rfl⟩
theorem fl_X0_123_X1 : jFL RX0 123 1 8 := ⟨RX1, TX1, 16, "SegmentedCache$Cache", rfl, by decide, Or.inr ⟨_, q269⟩, Or.inl rfl⟩
theorem fl_X0_126_X1 : jFL RX0 126 1 9 := ⟨RX1, TX1, 16, "SegmentedCache$Cache", rfl, by decide, Or.inr ⟨_, q271⟩, Or.inl rfl⟩
theorem lk_X0_129 : jLkS RX0 129 yX0_isKey 2 := ⟨q1995, q1996, ⟨by decide, by decide⟩, jNp_of (by decide +kernel)⟩
abbrev wX0_isKey : List Cond := ws_ yX0_isKey cX0_isKey 2 ((some .boolean))
theorem ce_X0_isKey : jCe yX0_isKey cX0_isKey 2 ((some .boolean)) := ⟨q1997, q69, by decide⟩
theorem st_X0_isKey {K : JK} {l : Launch} {lv : Nat} {av : List Value} {h0 : JIH} {QR : JQR} {QX : JQX} (F : JF K) {ls : List (Option Value)} (hls : jent av 2 = ls) (hn : (jsl av).length ≤ 2 := by first | exact Nat.le_of_ble_eq_true rfl | (simp [jsl, jcat_v]; done)) (body : ∀ M : JM, JX M K l cX0_isKey RX0 2 ((some .boolean)) "isKey" [] lv h0 QR QX → J M h0 0 ls []) : Ct K l yX0_isKey wX0_isKey lv av h0 QR QX := Ct.start F (by decide +kernel) hn hls body
theorem lk_X0_133 : jLkI RX0 133 yX8_init 2 := ⟨rfl, q1999, q2000, ⟨by decide, by decide⟩, jNp_of (by decide +kernel)⟩
abbrev wX8_init : List Cond := ws_ yX8_init cX8_init 3 (none)
theorem ce_X8_init : jCe yX8_init cX8_init 3 (none) := ⟨q2001, q117, by decide⟩
theorem st_X8_init {K : JK} {l : Launch} {lv : Nat} {av : List Value} {h0 : JIH} {QR : JQR} {QX : JQX} (F : JF K) {ls : List (Option Value)} (hls : jent av 3 = ls) (hn : (jsl av).length ≤ 3 := by first | exact Nat.le_of_ble_eq_true rfl | (simp [jsl, jcat_v]; done)) (body : ∀ M : JM, JX M K l cX8_init RX8 3 (none) "<init>" [] lv h0 QR QX → J M h0 0 ls []) : Ct K l yX8_init wX8_init lv av h0 QR QX := Ct.start F (by decide +kernel) hn hls body
theorem lk_X0_136_X1 : jLkV RX0 136 yX1_puts RX1 4 := ⟨q2010, q2011, q2012, ⟨by decide, by decide⟩, jNp_of (by decide +kernel)⟩
abbrev wX1_puts : List Cond := ws_ yX1_puts cX1_puts 9 ((some .int))
theorem ce_X1_puts : jCe yX1_puts cX1_puts 9 ((some .int)) := ⟨q2013, q70, by decide⟩
theorem st_X1_puts {K : JK} {l : Launch} {lv : Nat} {av : List Value} {h0 : JIH} {QR : JQR} {QX : JQX} (F : JF K) {ls : List (Option Value)} (hls : jent av 9 = ls) (hn : (jsl av).length ≤ 9 := by first | exact Nat.le_of_ble_eq_true rfl | (simp [jsl, jcat_v]; done)) (body : ∀ M : JM, JX M K l cX1_puts RX1 9 ((some .int)) "puts" [] lv h0 QR QX → J M h0 0 ls []) : Ct K l yX1_puts wX1_puts lv av h0 QR QX := Ct.start F (by decide +kernel) hn hls body
theorem lk_X0_142_X1 : jLkV RX0 142 yX1_gets RX1 1 := ⟨q2070, q2071, q2072, ⟨by decide, by decide⟩, jNp_of (by decide +kernel)⟩
abbrev wX1_gets : List Cond := ws_ yX1_gets cX1_gets 3 ((Option.some (.object "SegmentedCache$Thing")))
theorem ce_X1_gets : jCe yX1_gets cX1_gets 3 ((Option.some (.object "SegmentedCache$Thing"))) := ⟨q2073, q70, by decide⟩
theorem st_X1_gets {K : JK} {l : Launch} {lv : Nat} {av : List Value} {h0 : JIH} {QR : JQR} {QX : JQX} (F : JF K) {ls : List (Option Value)} (hls : jent av 3 = ls) (hn : (jsl av).length ≤ 3 := by first | exact Nat.le_of_ble_eq_true rfl | (simp [jsl, jcat_v]; done)) (body : ∀ M : JM, JX M K l cX1_gets RX1 3 ((Option.some (.object "SegmentedCache$Thing"))) "gets" [] lv h0 QR QX → J M h0 0 ls []) : Ct K l yX1_gets wX1_gets lv av h0 QR QX := Ct.start F (by decide +kernel) hn hls body
theorem fl_X0_146_X7 : jFL RX0 146 7 0 := ⟨RX7, TX7, 6, "SegmentedCache$Thing", rfl, by decide, Or.inr ⟨_, q1886⟩, Or.inl rfl⟩
theorem lk_X0_151_X1 : jLkV RX0 151 yX1_drops RX1 1 := ⟨q2078, q2079, q2080, ⟨by decide, by decide⟩, jNp_of (by decide +kernel)⟩
abbrev wX1_drops : List Cond := ws_ yX1_drops cX1_drops 3 ((some .int))
theorem ce_X1_drops : jCe yX1_drops cX1_drops 3 ((some .int)) := ⟨q2081, q70, by decide⟩
theorem st_X1_drops {K : JK} {l : Launch} {lv : Nat} {av : List Value} {h0 : JIH} {QR : JQR} {QX : JQX} (F : JF K) {ls : List (Option Value)} (hls : jent av 3 = ls) (hn : (jsl av).length ≤ 3 := by first | exact Nat.le_of_ble_eq_true rfl | (simp [jsl, jcat_v]; done)) (body : ∀ M : JM, JX M K l cX1_drops RX1 3 ((some .int)) "drops" [] lv h0 QR QX → J M h0 0 ls []) : Ct K l yX1_drops wX1_drops lv av h0 QR QX := Ct.start F (by decide +kernel) hn hls body
theorem lk_X0_155_X1 : jLkVN RX0 155 yX1_thing RX1 1 := ⟨⟨_, q2086⟩, q2016, qs17, ⟨by decide, by decide⟩, jNp_of (by decide +kernel)⟩
abbrev wX1_thing : List Cond := ws_ yX1_thing cX1_thing 3 ((Option.some (.object "SegmentedCache$Thing")))
theorem ce_X1_thing : jCe yX1_thing cX1_thing 3 ((Option.some (.object "SegmentedCache$Thing"))) := ⟨q2017, q70, by decide⟩
theorem st_X1_thing {K : JK} {l : Launch} {lv : Nat} {av : List Value} {h0 : JIH} {QR : JQR} {QX : JQX} (F : JF K) {ls : List (Option Value)} (hls : jent av 3 = ls) (hn : (jsl av).length ≤ 3 := by first | exact Nat.le_of_ble_eq_true rfl | (simp [jsl, jcat_v]; done)) (body : ∀ M : JM, JX M K l cX1_thing RX1 3 ((Option.some (.object "SegmentedCache$Thing"))) "thing" [] lv h0 QR QX → J M h0 0 ls []) : Ct K l yX1_thing wX1_thing lv av h0 QR QX := Ct.start F (by decide +kernel) hn hls body
theorem fl_X0_158_X7 : jFL RX0 158 7 5 := ⟨RX7, TX7, 6, "SegmentedCache$Thing", rfl, by decide, Or.inr ⟨_, q1907⟩, Or.inl rfl⟩
theorem pl_X0_158_X7 (nm : String) : jPL RX0 nm 158 7 5 (.boolean) := ⟨RX7, TX7, 6, "SegmentedCache$Thing", rfl, by decide, Or.inl ⟨Or.inr ⟨_, q1907⟩, rfl⟩, Or.inl rfl, by decide +kernel⟩
theorem lk_X0_172_X1 : jLkV RX0 172 yX1_where RX1 1 := ⟨q2091, q2034, q2035, ⟨by decide, by decide⟩, jNp_of (by decide +kernel)⟩
abbrev wX1_where : List Cond := ws_ yX1_where cX1_where 3 ((some .int))
theorem ce_X1_where : jCe yX1_where cX1_where 3 ((some .int)) := ⟨q2036, q70, by decide⟩
theorem st_X1_where {K : JK} {l : Launch} {lv : Nat} {av : List Value} {h0 : JIH} {QR : JQR} {QX : JQX} (F : JF K) {ls : List (Option Value)} (hls : jent av 3 = ls) (hn : (jsl av).length ≤ 3 := by first | exact Nat.le_of_ble_eq_true rfl | (simp [jsl, jcat_v]; done)) (body : ∀ M : JM, JX M K l cX1_where RX1 3 ((some .int)) "where" [] lv h0 QR QX → J M h0 0 ls []) : Ct K l yX1_where wX1_where lv av h0 QR QX := Ct.start F (by decide +kernel) hn hls body
theorem fl_X0_175_X2 : jFL RX0 175 2 0 := ⟨RX2, TX2, 3, "SegmentedCache$Cache$Queue", rfl, by decide, Or.inr ⟨_, q213⟩, Or.inl rfl⟩
theorem lk_X0_179_J2 : jLkV RX0 179 yJ2_get RJ2 1 := ⟨q2092, q2019, q2020, ⟨by decide, by decide⟩, jNp_of (by decide +kernel)⟩
abbrev wJ2_get : List Cond := ws_ yJ2_get cJ2_get 3 ((Option.some (.object "java/lang/Object")))
theorem ce_J2_get : jCe yJ2_get cJ2_get 3 ((Option.some (.object "java/lang/Object"))) := ⟨q2021, q74, by decide⟩
theorem st_J2_get {K : JK} {l : Launch} {lv : Nat} {av : List Value} {h0 : JIH} {QR : JQR} {QX : JQX} (F : JF K) {ls : List (Option Value)} (hls : jent av 3 = ls) (hn : (jsl av).length ≤ 3 := by first | exact Nat.le_of_ble_eq_true rfl | (simp [jsl, jcat_v]; done)) (body : ∀ M : JM, JX M K l cJ2_get RJ2 3 ((Option.some (.object "java/lang/Object"))) "get" [] lv h0 QR QX → J M h0 0 ls []) : Ct K l yJ2_get wJ2_get lv av h0 QR QX := Ct.start F (by decide +kernel) hn hls body
theorem cl_X0_147 : jCL RX0 147 "SegmentedCache$Thing" := q2093
theorem fl_X0_162_X7 : jFL RX0 162 7 1 := ⟨RX7, TX7, 6, "SegmentedCache$Thing", rfl, by decide, Or.inr ⟨_, q1892⟩, Or.inl rfl⟩
theorem lk_X0_185_X0 : jLkV RX0 185 yX0_ofThing RX0 2 := ⟨q2094, q2096, qs20, ⟨by decide, by decide⟩, jNp_of (by decide +kernel)⟩
abbrev wX0_ofThing : List Cond := ws_ yX0_ofThing cX0_ofThing 3 ((some .int))
theorem ce_X0_ofThing : jCe yX0_ofThing cX0_ofThing 3 ((some .int)) := ⟨q2097, q69, by decide⟩
theorem st_X0_ofThing {K : JK} {l : Launch} {lv : Nat} {av : List Value} {h0 : JIH} {QR : JQR} {QX : JQX} (F : JF K) {ls : List (Option Value)} (hls : jent av 3 = ls) (hn : (jsl av).length ≤ 3 := by first | exact Nat.le_of_ble_eq_true rfl | (simp [jsl, jcat_v]; done)) (body : ∀ M : JM, JX M K l cX0_ofThing RX0 3 ((some .int)) "ofThing" [] lv h0 QR QX → J M h0 0 ls []) : Ct K l yX0_ofThing wX0_ofThing lv av h0 QR QX := Ct.start F (by decide +kernel) hn hls body
theorem lk_X0_189_X2 : jLkV RX0 189 yX2_placeOf RX2 1 := ⟨q2098, q2099, q2100, ⟨by decide, by decide⟩, jNp_of (by decide +kernel)⟩
abbrev wX2_placeOf : List Cond := ws_ yX2_placeOf cX2_placeOf 5 ((some .int))
theorem ce_X2_placeOf : jCe yX2_placeOf cX2_placeOf 5 ((some .int)) := ⟨q2101, q71, by decide⟩
theorem st_X2_placeOf {K : JK} {l : Launch} {lv : Nat} {av : List Value} {h0 : JIH} {QR : JQR} {QX : JQX} (F : JF K) {ls : List (Option Value)} (hls : jent av 5 = ls) (hn : (jsl av).length ≤ 5 := by first | exact Nat.le_of_ble_eq_true rfl | (simp [jsl, jcat_v]; done)) (body : ∀ M : JM, JX M K l cX2_placeOf RX2 5 ((some .int)) "placeOf" [] lv h0 QR QX → J M h0 0 ls []) : Ct K l yX2_placeOf wX2_placeOf lv av h0 QR QX := Ct.start F (by decide +kernel) hn hls body
theorem fl_X0_163_X7 : jFL RX0 163 7 2 := ⟨RX7, TX7, 6, "SegmentedCache$Thing", rfl, by decide, Or.inr ⟨_, q1894⟩, Or.inl rfl⟩
theorem fl_X0_166_X7 : jFL RX0 166 7 3 := ⟨RX7, TX7, 6, "SegmentedCache$Thing", rfl, by decide, Or.inr ⟨_, q1899⟩, Or.inl rfl⟩
theorem fl_X0_169_X7 : jFL RX0 169 7 4 := ⟨RX7, TX7, 6, "SegmentedCache$Thing", rfl, by decide, Or.inr ⟨_, q1903⟩, Or.inl rfl⟩
theorem lk_X0_192_X2 : jLkV RX0 192 yX2_at RX2 1 := ⟨q2128, q2129, q2130, ⟨by decide, by decide⟩, jNp_of (by decide +kernel)⟩
abbrev wX2_at : List Cond := ws_ yX2_at cX2_at 5 ((some .int))
theorem ce_X2_at : jCe yX2_at cX2_at 5 ((some .int)) := ⟨q2131, q71, by decide⟩
theorem st_X2_at {K : JK} {l : Launch} {lv : Nat} {av : List Value} {h0 : JIH} {QR : JQR} {QX : JQX} (F : JF K) {ls : List (Option Value)} (hls : jent av 5 = ls) (hn : (jsl av).length ≤ 5 := by first | exact Nat.le_of_ble_eq_true rfl | (simp [jsl, jcat_v]; done)) (body : ∀ M : JM, JX M K l cX2_at RX2 5 ((some .int)) "at" [] lv h0 QR QX → J M h0 0 ls []) : Ct K l yX2_at wX2_at lv av h0 QR QX := Ct.start F (by decide +kernel) hn hls body
theorem lk_X0_218 : jLkS RX0 218 yX0_goneAt 2 := ⟨q2140, q2141, ⟨by decide, by decide⟩, jNp_of (by decide +kernel)⟩
abbrev wX0_goneAt : List Cond := ws_ yX0_goneAt cX0_goneAt 5 ((some .int))
theorem ce_X0_goneAt : jCe yX0_goneAt cX0_goneAt 5 ((some .int)) := ⟨q2142, q69, by decide⟩
theorem st_X0_goneAt {K : JK} {l : Launch} {lv : Nat} {av : List Value} {h0 : JIH} {QR : JQR} {QX : JQX} (F : JF K) {ls : List (Option Value)} (hls : jent av 5 = ls) (hn : (jsl av).length ≤ 5 := by first | exact Nat.le_of_ble_eq_true rfl | (simp [jsl, jcat_v]; done)) (body : ∀ M : JM, JX M K l cX0_goneAt RX0 5 ((some .int)) "goneAt" [] lv h0 QR QX → J M h0 0 ls []) : Ct K l yX0_goneAt wX0_goneAt lv av h0 QR QX := Ct.start F (by decide +kernel) hn hls body
theorem fl_X0_195_X1 : jFL RX0 195 1 14 := ⟨RX1, TX1, 16, "SegmentedCache$Cache", rfl, by decide, Or.inr ⟨_, q281⟩, Or.inl rfl⟩
theorem lk_X0_199_J4 : jLkV RX0 199 yJ4_iterator RJ4 0 := ⟨q2143, q2144, q2145, ⟨by decide, by decide⟩, jNp_of (by decide +kernel)⟩
abbrev wJ4_iterator : List Cond := ws_ yJ4_iterator cJ4_iterator 1 ((Option.some (.object "java/util/Iterator")))
theorem ce_J4_iterator : jCe yJ4_iterator cJ4_iterator 1 ((Option.some (.object "java/util/Iterator"))) := ⟨q2146, q76, by decide⟩
theorem st_J4_iterator {K : JK} {l : Launch} {lv : Nat} {av : List Value} {h0 : JIH} {QR : JQR} {QX : JQX} (F : JF K) {ls : List (Option Value)} (hls : jent av 1 = ls) (hn : (jsl av).length ≤ 1 := by first | exact Nat.le_of_ble_eq_true rfl | (simp [jsl, jcat_v]; done)) (body : ∀ M : JM, JX M K l cJ4_iterator RJ4 1 ((Option.some (.object "java/util/Iterator"))) "iterator" [] lv h0 QR QX → J M h0 0 ls []) : Ct K l yJ4_iterator wJ4_iterator lv av h0 QR QX := Ct.start F (by decide +kernel) hn hls body
theorem lk_X0_205_J38 : jLkF RX0 205 ⟨"java/util/Iterator", "hasNext", "()Z"⟩ yJ38_hasNext RJ38 0 := ⟨q2168, q589, q588, q603, q605, q606, q604, q602, ⟨by decide, by decide⟩, jNp_of (by decide +kernel)⟩
abbrev wJ38_hasNext : List Cond := ws_ yJ38_hasNext cJ38_hasNext 1 ((some .boolean))
theorem ce_J38_hasNext : jCe yJ38_hasNext cJ38_hasNext 1 ((some .boolean)) := ⟨q607, q119, by decide⟩
theorem st_J38_hasNext {K : JK} {l : Launch} {lv : Nat} {av : List Value} {h0 : JIH} {QR : JQR} {QX : JQX} (F : JF K) {ls : List (Option Value)} (hls : jent av 1 = ls) (hn : (jsl av).length ≤ 1 := by first | exact Nat.le_of_ble_eq_true rfl | (simp [jsl, jcat_v]; done)) (body : ∀ M : JM, JX M K l cJ38_hasNext RJ38 1 ((some .boolean)) "hasNext" [] lv h0 QR QX → J M h0 0 ls []) : Ct K l yJ38_hasNext wJ38_hasNext lv av h0 QR QX := Ct.start F (by decide +kernel) hn hls body
theorem lk_X0_205_J41 : jLkF RX0 205 ⟨"java/util/Iterator", "hasNext", "()Z"⟩ yJ41_hasNext RJ41 0 := ⟨q2168, q589, q588, q621, q623, q624, q622, q620, ⟨by decide, by decide⟩, jNp_of (by decide +kernel)⟩
theorem lk_X0_205_J12 : jLkF RX0 205 ⟨"java/util/Iterator", "hasNext", "()Z"⟩ yJ11_hasNext RJ12 0 := ⟨q2168, q589, q588, q609, q611, q612, q610, q608, ⟨by decide, by decide⟩, jNp_of (by decide +kernel)⟩
abbrev wJ11_hasNext : List Cond := ws_ yJ11_hasNext cJ11_hasNext 1 ((some .boolean))
theorem ce_J11_hasNext : jCe yJ11_hasNext cJ11_hasNext 1 ((some .boolean)) := ⟨q613, q86, by decide⟩
theorem st_J11_hasNext {K : JK} {l : Launch} {lv : Nat} {av : List Value} {h0 : JIH} {QR : JQR} {QX : JQX} (F : JF K) {ls : List (Option Value)} (hls : jent av 1 = ls) (hn : (jsl av).length ≤ 1 := by first | exact Nat.le_of_ble_eq_true rfl | (simp [jsl, jcat_v]; done)) (body : ∀ M : JM, JX M K l cJ11_hasNext RJ11 1 ((some .boolean)) "hasNext" [] lv h0 QR QX → J M h0 0 ls []) : Ct K l yJ11_hasNext wJ11_hasNext lv av h0 QR QX := Ct.start F (by decide +kernel) hn hls body
theorem lk_X0_205_J13 : jLkF RX0 205 ⟨"java/util/Iterator", "hasNext", "()Z"⟩ yJ11_hasNext RJ13 0 := ⟨q2168, q589, q588, q615, q611, q612, q616, q614, ⟨by decide, by decide⟩, jNp_of (by decide +kernel)⟩
theorem lk_X0_205_J43 : jLkF RX0 205 ⟨"java/util/Iterator", "hasNext", "()Z"⟩ yJ11_hasNext RJ43 0 := ⟨q2168, q589, q588, q618, q611, q612, q619, q617, ⟨by decide, by decide⟩, jNp_of (by decide +kernel)⟩
theorem lk_X0_211_J38 : jLkF RX0 211 ⟨"java/util/Iterator", "next", "()Ljava/lang/Object;"⟩ yJ38_next RJ38 0 := ⟨q2170, q629, q628, q1127, q1129, q1130, q1128, q602, ⟨by decide, by decide⟩, jNp_of (by decide +kernel)⟩
abbrev wJ38_next : List Cond := ws_ yJ38_next cJ38_next 3 ((Option.some (.object "java/lang/Object")))
theorem ce_J38_next : jCe yJ38_next cJ38_next 3 ((Option.some (.object "java/lang/Object"))) := ⟨q1131, q119, by decide⟩
theorem st_J38_next {K : JK} {l : Launch} {lv : Nat} {av : List Value} {h0 : JIH} {QR : JQR} {QX : JQX} (F : JF K) {ls : List (Option Value)} (hls : jent av 3 = ls) (hn : (jsl av).length ≤ 3 := by first | exact Nat.le_of_ble_eq_true rfl | (simp [jsl, jcat_v]; done)) (body : ∀ M : JM, JX M K l cJ38_next RJ38 3 ((Option.some (.object "java/lang/Object"))) "next" [] lv h0 QR QX → J M h0 0 ls []) : Ct K l yJ38_next wJ38_next lv av h0 QR QX := Ct.start F (by decide +kernel) hn hls body
theorem lk_X0_211_J41 : jLkF RX0 211 ⟨"java/util/Iterator", "next", "()Ljava/lang/Object;"⟩ yJ41_next RJ41 0 := ⟨q2170, q629, q628, q1176, q1178, q1179, q1177, q620, ⟨by decide, by decide⟩, jNp_of (by decide +kernel)⟩
abbrev wJ41_next : List Cond := ws_ yJ41_next cJ41_next 1 ((Option.some (.object "java/lang/Object")))
theorem ce_J41_next : jCe yJ41_next cJ41_next 1 ((Option.some (.object "java/lang/Object"))) := ⟨q1180, q126, by decide⟩
theorem st_J41_next {K : JK} {l : Launch} {lv : Nat} {av : List Value} {h0 : JIH} {QR : JQR} {QX : JQX} (F : JF K) {ls : List (Option Value)} (hls : jent av 1 = ls) (hn : (jsl av).length ≤ 1 := by first | exact Nat.le_of_ble_eq_true rfl | (simp [jsl, jcat_v]; done)) (body : ∀ M : JM, JX M K l cJ41_next RJ41 1 ((Option.some (.object "java/lang/Object"))) "next" [] lv h0 QR QX → J M h0 0 ls []) : Ct K l yJ41_next wJ41_next lv av h0 QR QX := Ct.start F (by decide +kernel) hn hls body
theorem lk_X0_211_J12 : jLkF RX0 211 ⟨"java/util/Iterator", "next", "()Ljava/lang/Object;"⟩ yJ12_next RJ12 0 := ⟨q2170, q629, q628, q1138, q1140, q1141, q1139, q608, ⟨by decide, by decide⟩, jNp_of (by decide +kernel)⟩
abbrev wJ12_next : List Cond := ws_ yJ12_next cJ12_next 1 ((Option.some (.object "java/lang/Object")))
theorem ce_J12_next : jCe yJ12_next cJ12_next 1 ((Option.some (.object "java/lang/Object"))) := ⟨q1142, q87, by decide⟩
theorem st_J12_next {K : JK} {l : Launch} {lv : Nat} {av : List Value} {h0 : JIH} {QR : JQR} {QX : JQX} (F : JF K) {ls : List (Option Value)} (hls : jent av 1 = ls) (hn : (jsl av).length ≤ 1 := by first | exact Nat.le_of_ble_eq_true rfl | (simp [jsl, jcat_v]; done)) (body : ∀ M : JM, JX M K l cJ12_next RJ12 1 ((Option.some (.object "java/lang/Object"))) "next" [] lv h0 QR QX → J M h0 0 ls []) : Ct K l yJ12_next wJ12_next lv av h0 QR QX := Ct.start F (by decide +kernel) hn hls body
theorem lk_X0_211_J13 : jLkF RX0 211 ⟨"java/util/Iterator", "next", "()Ljava/lang/Object;"⟩ yJ13_next RJ13 0 := ⟨q2170, q629, q628, q1153, q1155, q1156, q1154, q614, ⟨by decide, by decide⟩, jNp_of (by decide +kernel)⟩
abbrev wJ13_next : List Cond := ws_ yJ13_next cJ13_next 1 ((Option.some (.object "java/lang/Object")))
theorem ce_J13_next : jCe yJ13_next cJ13_next 1 ((Option.some (.object "java/lang/Object"))) := ⟨q1157, q88, by decide⟩
theorem st_J13_next {K : JK} {l : Launch} {lv : Nat} {av : List Value} {h0 : JIH} {QR : JQR} {QX : JQX} (F : JF K) {ls : List (Option Value)} (hls : jent av 1 = ls) (hn : (jsl av).length ≤ 1 := by first | exact Nat.le_of_ble_eq_true rfl | (simp [jsl, jcat_v]; done)) (body : ∀ M : JM, JX M K l cJ13_next RJ13 1 ((Option.some (.object "java/lang/Object"))) "next" [] lv h0 QR QX → J M h0 0 ls []) : Ct K l yJ13_next wJ13_next lv av h0 QR QX := Ct.start F (by decide +kernel) hn hls body
theorem lk_X0_211_J43 : jLkF RX0 211 ⟨"java/util/Iterator", "next", "()Ljava/lang/Object;"⟩ yJ43_next RJ43 0 := ⟨q2170, q629, q628, q1168, q1170, q1171, q1169, q617, ⟨by decide, by decide⟩, jNp_of (by decide +kernel)⟩
abbrev wJ43_next : List Cond := ws_ yJ43_next cJ43_next 1 ((Option.some (.object "java/lang/Object")))
theorem ce_J43_next : jCe yJ43_next cJ43_next 1 ((Option.some (.object "java/lang/Object"))) := ⟨q1172, q128, by decide⟩
theorem st_J43_next {K : JK} {l : Launch} {lv : Nat} {av : List Value} {h0 : JIH} {QR : JQR} {QX : JQX} (F : JF K) {ls : List (Option Value)} (hls : jent av 1 = ls) (hn : (jsl av).length ≤ 1 := by first | exact Nat.le_of_ble_eq_true rfl | (simp [jsl, jcat_v]; done)) (body : ∀ M : JM, JX M K l cJ43_next RJ43 1 ((Option.some (.object "java/lang/Object"))) "next" [] lv h0 QR QX → J M h0 0 ls []) : Ct K l yJ43_next wJ43_next lv av h0 QR QX := Ct.start F (by decide +kernel) hn hls body
theorem lk_X0_215_X8 : jLkV RX0 215 yX8_told RX8 0 := ⟨q2171, q2133, q2134, ⟨by decide, by decide⟩, jNp_of (by decide +kernel)⟩
abbrev wX8_told : List Cond := ws_ yX8_told cX8_told 1 ((some .int))
theorem ce_X8_told : jCe yX8_told cX8_told 1 ((some .int)) := ⟨q2135, q117, by decide⟩
theorem st_X8_told {K : JK} {l : Launch} {lv : Nat} {av : List Value} {h0 : JIH} {QR : JQR} {QX : JQX} (F : JF K) {ls : List (Option Value)} (hls : jent av 1 = ls) (hn : (jsl av).length ≤ 1 := by first | exact Nat.le_of_ble_eq_true rfl | (simp [jsl, jcat_v]; done)) (body : ∀ M : JM, JX M K l cX8_told RX8 1 ((some .int)) "told" [] lv h0 QR QX → J M h0 0 ls []) : Ct K l yX8_told wX8_told lv av h0 QR QX := Ct.start F (by decide +kernel) hn hls body
theorem lk_X0_222_X3 : jLkV RX0 222 yX3_of RX3 1 := ⟨q2176, q2177, q2178, ⟨by decide, by decide⟩, jNp_of (by decide +kernel)⟩
abbrev wX3_of : List Cond := ws_ yX3_of cX3_of 6 ((Option.some (.object "SegmentedCache$Sketch")))
theorem ce_X3_of : jCe yX3_of cX3_of 6 ((Option.some (.object "SegmentedCache$Sketch"))) := ⟨q2179, q77, by decide⟩
theorem st_X3_of {K : JK} {l : Launch} {lv : Nat} {av : List Value} {h0 : JIH} {QR : JQR} {QX : JQX} (F : JF K) {ls : List (Option Value)} (hls : jent av 6 = ls) (hn : (jsl av).length ≤ 6 := by first | exact Nat.le_of_ble_eq_true rfl | (simp [jsl, jcat_v]; done)) (body : ∀ M : JM, JX M K l cX3_of RX3 6 ((Option.some (.object "SegmentedCache$Sketch"))) "of" [] lv h0 QR QX → J M h0 0 ls []) : Ct K l yX3_of wX3_of lv av h0 QR QX := Ct.start F (by decide +kernel) hn hls body
theorem lk_X0_226_X3 : jLkV RX0 226 yX3_victim RX3 1 := ⟨q2208, q2209, q2210, ⟨by decide, by decide⟩, jNp_of (by decide +kernel)⟩
abbrev wX3_victim : List Cond := ws_ yX3_victim cX3_victim 3 ((some .int))
theorem ce_X3_victim : jCe yX3_victim cX3_victim 3 ((some .int)) := ⟨q2211, q77, by decide⟩
theorem st_X3_victim {K : JK} {l : Launch} {lv : Nat} {av : List Value} {h0 : JIH} {QR : JQR} {QX : JQX} (F : JF K) {ls : List (Option Value)} (hls : jent av 3 = ls) (hn : (jsl av).length ≤ 3 := by first | exact Nat.le_of_ble_eq_true rfl | (simp [jsl, jcat_v]; done)) (body : ∀ M : JM, JX M K l cX3_victim RX3 3 ((some .int)) "victim" [] lv h0 QR QX → J M h0 0 ls []) : Ct K l yX3_victim wX3_victim lv av h0 QR QX := Ct.start F (by decide +kernel) hn hls body
theorem fl_X0_229_X0 : jFL RX0 229 0 4 := ⟨RX0, TX0, 15, "SegmentedCache", rfl, by decide, Or.inl q438, Or.inl rfl⟩
theorem pl_X0_229_X0 (nm : String) : jPL RX0 nm 229 0 4 (.int) := ⟨RX0, TX0, 15, "SegmentedCache", rfl, by decide, Or.inl ⟨Or.inl q438, rfl⟩, Or.inl rfl, by decide +kernel⟩
theorem lk_X0_69_J7 : jLkV RX0 69 yJ7_size RJ7 0 := ⟨q2249, q600, q3029, ⟨by decide, by decide⟩, jNp_of (by decide +kernel)⟩
theorem cl_X0_232 : jCL RX0 232 "SegmentedCache$Reader" := q2250
theorem lk_X0_234 : jLkI RX0 234 yX9_init 2 := ⟨rfl, q2252, q2253, ⟨by decide, by decide⟩, jNp_of (by decide +kernel)⟩
abbrev wX9_init : List Cond := ws_ yX9_init cX9_init 3 (none)
theorem ce_X9_init : jCe yX9_init cX9_init 3 (none) := ⟨q2254, q120, by decide⟩
theorem st_X9_init {K : JK} {l : Launch} {lv : Nat} {av : List Value} {h0 : JIH} {QR : JQR} {QX : JQX} (F : JF K) {ls : List (Option Value)} (hls : jent av 3 = ls) (hn : (jsl av).length ≤ 3 := by first | exact Nat.le_of_ble_eq_true rfl | (simp [jsl, jcat_v]; done)) (body : ∀ M : JM, JX M K l cX9_init RX9 3 (none) "<init>" [] lv h0 QR QX → J M h0 0 ls []) : Ct K l yX9_init wX9_init lv av h0 QR QX := Ct.start F (by decide +kernel) hn hls body
theorem lk_X0_237_X9 : jLkV RX0 237 yX9_whole RX9 0 := ⟨q2271, q2272, q2273, ⟨by decide, by decide⟩, jNp_of (by decide +kernel)⟩
abbrev wX9_whole : List Cond := ws_ yX9_whole cX9_whole 1 ((Option.some (.object "java/util/LinkedList")))
theorem ce_X9_whole : jCe yX9_whole cX9_whole 1 ((Option.some (.object "java/util/LinkedList"))) := ⟨q2274, q120, by decide⟩
theorem st_X9_whole {K : JK} {l : Launch} {lv : Nat} {av : List Value} {h0 : JIH} {QR : JQR} {QX : JQX} (F : JF K) {ls : List (Option Value)} (hls : jent av 1 = ls) (hn : (jsl av).length ≤ 1 := by first | exact Nat.le_of_ble_eq_true rfl | (simp [jsl, jcat_v]; done)) (body : ∀ M : JM, JX M K l cX9_whole RX9 1 ((Option.some (.object "java/util/LinkedList"))) "whole" [] lv h0 QR QX → J M h0 0 ls []) : Ct K l yX9_whole wX9_whole lv av h0 QR QX := Ct.start F (by decide +kernel) hn hls body
theorem lk_X0_241_J7 : jLkV RX0 241 yJ7_add RJ7 1 := ⟨q2369, q2340, q2341, ⟨by decide, by decide⟩, jNp_of (by decide +kernel)⟩
abbrev wJ7_add : List Cond := ws_ yJ7_add cJ7_add 2 ((some .boolean))
theorem ce_J7_add : jCe yJ7_add cJ7_add 2 ((some .boolean)) := ⟨q2342, q80, by decide⟩
theorem st_J7_add {K : JK} {l : Launch} {lv : Nat} {av : List Value} {h0 : JIH} {QR : JQR} {QX : JQX} (F : JF K) {ls : List (Option Value)} (hls : jent av 2 = ls) (hn : (jsl av).length ≤ 2 := by first | exact Nat.le_of_ble_eq_true rfl | (simp [jsl, jcat_v]; done)) (body : ∀ M : JM, JX M K l cJ7_add RJ7 2 ((some .boolean)) "add" [] lv h0 QR QX → J M h0 0 ls []) : Ct K l yJ7_add wJ7_add lv av h0 QR QX := Ct.start F (by decide +kernel) hn hls body
theorem fl_X0_247_X11 : jFL RX0 247 11 6 := ⟨RX11, TX11, 7, "SegmentedCache$Off", rfl, by decide, Or.inr ⟨_, q2308⟩, Or.inl rfl⟩
theorem lk_X0_250_X0 : jLkV RX0 250 yX0_isTrace RX0 1 := ⟨q2374, q2376, qs35, ⟨by decide, by decide⟩, jNp_of (by decide +kernel)⟩
abbrev wX0_isTrace : List Cond := ws_ yX0_isTrace cX0_isTrace 2 ((some .boolean))
theorem ce_X0_isTrace : jCe yX0_isTrace cX0_isTrace 2 ((some .boolean)) := ⟨q2377, q69, by decide⟩
theorem st_X0_isTrace {K : JK} {l : Launch} {lv : Nat} {av : List Value} {h0 : JIH} {QR : JQR} {QX : JQX} (F : JF K) {ls : List (Option Value)} (hls : jent av 2 = ls) (hn : (jsl av).length ≤ 2 := by first | exact Nat.le_of_ble_eq_true rfl | (simp [jsl, jcat_v]; done)) (body : ∀ M : JM, JX M K l cX0_isTrace RX0 2 ((some .boolean)) "isTrace" [] lv h0 QR QX → J M h0 0 ls []) : Ct K l yX0_isTrace wX0_isTrace lv av h0 QR QX := Ct.start F (by decide +kernel) hn hls body
theorem lk_X0_254_J7 : jLkV RX0 254 yJ7_get RJ7 1 := ⟨q2378, q644, q3030, ⟨by decide, by decide⟩, jNp_of (by decide +kernel)⟩
theorem lk_X0_257_X1 : jLkV RX0 257 yX1_runs RX1 1 := ⟨q2379, q2380, q2381, ⟨by decide, by decide⟩, jNp_of (by decide +kernel)⟩
abbrev wX1_runs : List Cond := ws_ yX1_runs cX1_runs 4 (none)
theorem ce_X1_runs : jCe yX1_runs cX1_runs 4 (none) := ⟨q2382, q70, by decide⟩
theorem st_X1_runs {K : JK} {l : Launch} {lv : Nat} {av : List Value} {h0 : JIH} {QR : JQR} {QX : JQX} (F : JF K) {ls : List (Option Value)} (hls : jent av 4 = ls) (hn : (jsl av).length ≤ 4 := by first | exact Nat.le_of_ble_eq_true rfl | (simp [jsl, jcat_v]; done)) (body : ∀ M : JM, JX M K l cX1_runs RX1 4 (none) "runs" [] lv h0 QR QX → J M h0 0 ls []) : Ct K l yX1_runs wX1_runs lv av h0 QR QX := Ct.start F (by decide +kernel) hn hls body
theorem lk_X0_261_X3 : jLkV RX0 261 yX3_runs RX3 1 := ⟨q2445, q2446, q2447, ⟨by decide, by decide⟩, jNp_of (by decide +kernel)⟩
abbrev wX3_runs : List Cond := ws_ yX3_runs cX3_runs 5 (none)
theorem ce_X3_runs : jCe yX3_runs cX3_runs 5 (none) := ⟨q2448, q77, by decide⟩
theorem st_X3_runs {K : JK} {l : Launch} {lv : Nat} {av : List Value} {h0 : JIH} {QR : JQR} {QX : JQX} (F : JF K) {ls : List (Option Value)} (hls : jent av 5 = ls) (hn : (jsl av).length ≤ 5 := by first | exact Nat.le_of_ble_eq_true rfl | (simp [jsl, jcat_v]; done)) (body : ∀ M : JM, JX M K l cX3_runs RX3 5 (none) "runs" [] lv h0 QR QX → J M h0 0 ls []) : Ct K l yX3_runs wX3_runs lv av h0 QR QX := Ct.start F (by decide +kernel) hn hls body
theorem fl_X0_262_X3 : jFL RX0 262 3 14 := ⟨RX3, TX3, 19, "SegmentedCache$Sketch", rfl, by decide, Or.inr ⟨_, q340⟩, Or.inl rfl⟩
theorem fl_X0_263_X3 : jFL RX0 263 3 15 := ⟨RX3, TX3, 19, "SegmentedCache$Sketch", rfl, by decide, Or.inr ⟨_, q342⟩, Or.inl rfl⟩
theorem fl_X0_264_X3 : jFL RX0 264 3 16 := ⟨RX3, TX3, 19, "SegmentedCache$Sketch", rfl, by decide, Or.inr ⟨_, q344⟩, Or.inl rfl⟩
theorem fl_X0_265_X3 : jFL RX0 265 3 11 := ⟨RX3, TX3, 19, "SegmentedCache$Sketch", rfl, by decide, Or.inr ⟨_, q336⟩, Or.inl rfl⟩
theorem lk_X0_266_X3 : jLkVN RX0 266 yX3_both RX3 0 := ⟨⟨_, q2477⟩, q2226, qs27, ⟨by decide, by decide⟩, jNp_of (by decide +kernel)⟩
abbrev wX3_both : List Cond := ws_ yX3_both cX3_both 1 ((some .int))
theorem ce_X3_both : jCe yX3_both cX3_both 1 ((some .int)) := ⟨q2227, q77, by decide⟩
theorem st_X3_both {K : JK} {l : Launch} {lv : Nat} {av : List Value} {h0 : JIH} {QR : JQR} {QX : JQX} (F : JF K) {ls : List (Option Value)} (hls : jent av 1 = ls) (hn : (jsl av).length ≤ 1 := by first | exact Nat.le_of_ble_eq_true rfl | (simp [jsl, jcat_v]; done)) (body : ∀ M : JM, JX M K l cX3_both RX3 1 ((some .int)) "both" [] lv h0 QR QX → J M h0 0 ls []) : Ct K l yX3_both wX3_both lv av h0 QR QX := Ct.start F (by decide +kernel) hn hls body
theorem fl_X0_269_X3 : jFL RX0 269 3 17 := ⟨RX3, TX3, 19, "SegmentedCache$Sketch", rfl, by decide, Or.inr ⟨_, q346⟩, Or.inl rfl⟩
theorem lk_X0_276_X0 : jLkV RX0 276 yX0_hadBy RX0 3 := ⟨q2482, q2484, qs43, ⟨by decide, by decide⟩, jNp_of (by decide +kernel)⟩
abbrev wX0_hadBy : List Cond := ws_ yX0_hadBy cX0_hadBy 4 ((some .int))
theorem ce_X0_hadBy : jCe yX0_hadBy cX0_hadBy 4 ((some .int)) := ⟨q2485, q69, by decide⟩
theorem st_X0_hadBy {K : JK} {l : Launch} {lv : Nat} {av : List Value} {h0 : JIH} {QR : JQR} {QX : JQX} (F : JF K) {ls : List (Option Value)} (hls : jent av 4 = ls) (hn : (jsl av).length ≤ 4 := by first | exact Nat.le_of_ble_eq_true rfl | (simp [jsl, jcat_v]; done)) (body : ∀ M : JM, JX M K l cX0_hadBy RX0 4 ((some .int)) "hadBy" [] lv h0 QR QX → J M h0 0 ls []) : Ct K l yX0_hadBy wX0_hadBy lv av h0 QR QX := Ct.start F (by decide +kernel) hn hls body
theorem lk_X0_270_X3 : jLkV RX0 270 yX3_takes RX3 1 := ⟨q2486, q2487, q2488, ⟨by decide, by decide⟩, jNp_of (by decide +kernel)⟩
abbrev wX3_takes : List Cond := ws_ yX3_takes cX3_takes 2 (none)
theorem ce_X3_takes : jCe yX3_takes cX3_takes 2 (none) := ⟨q2489, q77, by decide⟩
theorem st_X3_takes {K : JK} {l : Launch} {lv : Nat} {av : List Value} {h0 : JIH} {QR : JQR} {QX : JQX} (F : JF K) {ls : List (Option Value)} (hls : jent av 2 = ls) (hn : (jsl av).length ≤ 2 := by first | exact Nat.le_of_ble_eq_true rfl | (simp [jsl, jcat_v]; done)) (body : ∀ M : JM, JX M K l cX3_takes RX3 2 (none) "takes" [] lv h0 QR QX → J M h0 0 ls []) : Ct K l yX3_takes wX3_takes lv av h0 QR QX := Ct.start F (by decide +kernel) hn hls body
theorem fl_X0_274_X3 : jFL RX0 274 3 10 := ⟨RX3, TX3, 19, "SegmentedCache$Sketch", rfl, by decide, Or.inr ⟨_, q334⟩, Or.inl rfl⟩
theorem pl_X0_274_X3 (nm : String) : jPL RX0 nm 274 3 10 (.int) := ⟨RX3, TX3, 19, "SegmentedCache$Sketch", rfl, by decide, Or.inl ⟨Or.inr ⟨_, q334⟩, rfl⟩, Or.inl rfl, by decide +kernel⟩
theorem pl_X0_265_X3 (nm : String) : jPL RX0 nm 265 3 11 (.int) := ⟨RX3, TX3, 19, "SegmentedCache$Sketch", rfl, by decide, Or.inl ⟨Or.inr ⟨_, q336⟩, rfl⟩, Or.inl rfl, by decide +kernel⟩
theorem lk_X0_275_X3 : jLkV RX0 275 yX3_trims RX3 0 := ⟨q2491, q2465, q2466, ⟨by decide, by decide⟩, jNp_of (by decide +kernel)⟩
abbrev wX3_trims : List Cond := ws_ yX3_trims cX3_trims 2 (none)
theorem ce_X3_trims : jCe yX3_trims cX3_trims 2 (none) := ⟨q2467, q77, by decide⟩
theorem st_X3_trims {K : JK} {l : Launch} {lv : Nat} {av : List Value} {h0 : JIH} {QR : JQR} {QX : JQX} (F : JF K) {ls : List (Option Value)} (hls : jent av 2 = ls) (hn : (jsl av).length ≤ 2 := by first | exact Nat.le_of_ble_eq_true rfl | (simp [jsl, jcat_v]; done)) (body : ∀ M : JM, JX M K l cX3_trims RX3 2 (none) "trims" [] lv h0 QR QX → J M h0 0 ls []) : Ct K l yX3_trims wX3_trims lv av h0 QR QX := Ct.start F (by decide +kernel) hn hls body
theorem lk_X0_284 : jLkS RX0 284 yX0_lowest 3 := ⟨q2496, q2497, ⟨by decide, by decide⟩, jNp_of (by decide +kernel)⟩
abbrev wX0_lowest : List Cond := ws_ yX0_lowest cX0_lowest 5 ((some .long))
theorem ce_X0_lowest : jCe yX0_lowest cX0_lowest 5 ((some .long)) := ⟨q2498, q69, by decide⟩
theorem st_X0_lowest {K : JK} {l : Launch} {lv : Nat} {av : List Value} {h0 : JIH} {QR : JQR} {QX : JQX} (F : JF K) {ls : List (Option Value)} (hls : jent av 5 = ls) (hn : (jsl av).length ≤ 5 := by first | exact Nat.le_of_ble_eq_true rfl | (simp [jsl, jcat_v]; done)) (body : ∀ M : JM, JX M K l cX0_lowest RX0 5 ((some .long)) "lowest" [] lv h0 QR QX → J M h0 0 ls []) : Ct K l yX0_lowest wX0_lowest lv av h0 QR QX := Ct.start F (by decide +kernel) hn hls body
theorem lk_X0_280 : jLkS RX0 280 yX0_divisor 2 := ⟨q2499, q2500, ⟨by decide, by decide⟩, jNp_of (by decide +kernel)⟩
abbrev wX0_divisor : List Cond := ws_ yX0_divisor cX0_divisor 8 ((some .long))
theorem ce_X0_divisor : jCe yX0_divisor cX0_divisor 8 ((some .long)) := ⟨q2501, q69, by decide⟩
theorem st_X0_divisor {K : JK} {l : Launch} {lv : Nat} {av : List Value} {h0 : JIH} {QR : JQR} {QX : JQX} (F : JF K) {ls : List (Option Value)} (hls : jent av 8 = ls) (hn : (jsl av).length ≤ 8 := by first | exact Nat.le_of_ble_eq_true rfl | (simp [jsl, jcat_v]; done)) (body : ∀ M : JM, JX M K l cX0_divisor RX0 8 ((some .long)) "divisor" [] lv h0 QR QX → J M h0 0 ls []) : Ct K l yX0_divisor wX0_divisor lv av h0 QR QX := Ct.start F (by decide +kernel) hn hls body
theorem lk_X0_288_J2 : jLkV RX0 288 yJ2_values RJ2 0 := ⟨q2506, q2507, q2508, ⟨by decide, by decide⟩, jNp_of (by decide +kernel)⟩
abbrev wJ2_values : List Cond := ws_ yJ2_values cJ2_values 1 ((Option.some (.object "java/util/Collection")))
theorem ce_J2_values : jCe yJ2_values cJ2_values 1 ((Option.some (.object "java/util/Collection"))) := ⟨q2509, q74, by decide⟩
theorem st_J2_values {K : JK} {l : Launch} {lv : Nat} {av : List Value} {h0 : JIH} {QR : JQR} {QX : JQX} (F : JF K) {ls : List (Option Value)} (hls : jent av 1 = ls) (hn : (jsl av).length ≤ 1 := by first | exact Nat.le_of_ble_eq_true rfl | (simp [jsl, jcat_v]; done)) (body : ∀ M : JM, JX M K l cJ2_values RJ2 1 ((Option.some (.object "java/util/Collection"))) "values" [] lv h0 QR QX → J M h0 0 ls []) : Ct K l yJ2_values wJ2_values lv av h0 QR QX := Ct.start F (by decide +kernel) hn hls body
theorem lk_X0_292_J4 : jLkF RX0 292 ⟨"java/util/Collection", "iterator", "()Ljava/util/Iterator;"⟩ yJ4_iterator RJ4 0 := ⟨q2529, q2531, q2530, q2533, q2144, q2535, q2534, q2532, ⟨by decide, by decide⟩, jNp_of (by decide +kernel)⟩
theorem lk_X0_292_J7 : jLkF RX0 292 ⟨"java/util/Collection", "iterator", "()Ljava/util/Iterator;"⟩ yJ6_iterator RJ7 0 := ⟨q2529, q2531, q2530, q2559, q2387, q2561, q2560, q2558, ⟨by decide, by decide⟩, jNp_of (by decide +kernel)⟩
abbrev wJ6_iterator : List Cond := ws_ yJ6_iterator cJ6_iterator 1 ((Option.some (.object "java/util/Iterator")))
theorem ce_J6_iterator : jCe yJ6_iterator cJ6_iterator 1 ((Option.some (.object "java/util/Iterator"))) := ⟨q2388, q79, by decide⟩
theorem st_J6_iterator {K : JK} {l : Launch} {lv : Nat} {av : List Value} {h0 : JIH} {QR : JQR} {QX : JQX} (F : JF K) {ls : List (Option Value)} (hls : jent av 1 = ls) (hn : (jsl av).length ≤ 1 := by first | exact Nat.le_of_ble_eq_true rfl | (simp [jsl, jcat_v]; done)) (body : ∀ M : JM, JX M K l cJ6_iterator RJ6 1 ((Option.some (.object "java/util/Iterator"))) "iterator" [] lv h0 QR QX → J M h0 0 ls []) : Ct K l yJ6_iterator wJ6_iterator lv av h0 QR QX := Ct.start F (by decide +kernel) hn hls body
theorem lk_X0_292_J10 : jLkF RX0 292 ⟨"java/util/Collection", "iterator", "()Ljava/util/Iterator;"⟩ yJ10_iterator RJ10 0 := ⟨q2529, q2531, q2530, q2537, q540, q541, q539, q2536, ⟨by decide, by decide⟩, jNp_of (by decide +kernel)⟩
abbrev wJ10_iterator : List Cond := ws_ yJ10_iterator cJ10_iterator 1 ((Option.some (.object "java/util/Iterator")))
theorem ce_J10_iterator : jCe yJ10_iterator cJ10_iterator 1 ((Option.some (.object "java/util/Iterator"))) := ⟨q542, q85, by decide⟩
theorem st_J10_iterator {K : JK} {l : Launch} {lv : Nat} {av : List Value} {h0 : JIH} {QR : JQR} {QX : JQX} (F : JF K) {ls : List (Option Value)} (hls : jent av 1 = ls) (hn : (jsl av).length ≤ 1 := by first | exact Nat.le_of_ble_eq_true rfl | (simp [jsl, jcat_v]; done)) (body : ∀ M : JM, JX M K l cJ10_iterator RJ10 1 ((Option.some (.object "java/util/Iterator"))) "iterator" [] lv h0 QR QX → J M h0 0 ls []) : Ct K l yJ10_iterator wJ10_iterator lv av h0 QR QX := Ct.start F (by decide +kernel) hn hls body
theorem lk_X0_292_J37 : jLkF RX0 292 ⟨"java/util/Collection", "iterator", "()Ljava/util/Iterator;"⟩ yJ37_iterator RJ37 0 := ⟨q2529, q2531, q2530, q2539, q571, q572, q570, q2538, ⟨by decide, by decide⟩, jNp_of (by decide +kernel)⟩
abbrev wJ37_iterator : List Cond := ws_ yJ37_iterator cJ37_iterator 1 ((Option.some (.object "java/util/Iterator")))
theorem ce_J37_iterator : jCe yJ37_iterator cJ37_iterator 1 ((Option.some (.object "java/util/Iterator"))) := ⟨q573, q118, by decide⟩
theorem st_J37_iterator {K : JK} {l : Launch} {lv : Nat} {av : List Value} {h0 : JIH} {QR : JQR} {QX : JQX} (F : JF K) {ls : List (Option Value)} (hls : jent av 1 = ls) (hn : (jsl av).length ≤ 1 := by first | exact Nat.le_of_ble_eq_true rfl | (simp [jsl, jcat_v]; done)) (body : ∀ M : JM, JX M K l cJ37_iterator RJ37 1 ((Option.some (.object "java/util/Iterator"))) "iterator" [] lv h0 QR QX → J M h0 0 ls []) : Ct K l yJ37_iterator wJ37_iterator lv av h0 QR QX := Ct.start F (by decide +kernel) hn hls body
theorem lk_X0_292_J42 : jLkF RX0 292 ⟨"java/util/Collection", "iterator", "()Ljava/util/Iterator;"⟩ yJ42_iterator RJ42 0 := ⟨q2529, q2531, q2530, q2541, q2543, q2544, q2542, q2540, ⟨by decide, by decide⟩, jNp_of (by decide +kernel)⟩
abbrev wJ42_iterator : List Cond := ws_ yJ42_iterator cJ42_iterator 1 ((Option.some (.object "java/util/Iterator")))
theorem ce_J42_iterator : jCe yJ42_iterator cJ42_iterator 1 ((Option.some (.object "java/util/Iterator"))) := ⟨q2545, q127, by decide⟩
theorem st_J42_iterator {K : JK} {l : Launch} {lv : Nat} {av : List Value} {h0 : JIH} {QR : JQR} {QX : JQX} (F : JF K) {ls : List (Option Value)} (hls : jent av 1 = ls) (hn : (jsl av).length ≤ 1 := by first | exact Nat.le_of_ble_eq_true rfl | (simp [jsl, jcat_v]; done)) (body : ∀ M : JM, JX M K l cJ42_iterator RJ42 1 ((Option.some (.object "java/util/Iterator"))) "iterator" [] lv h0 QR QX → J M h0 0 ls []) : Ct K l yJ42_iterator wJ42_iterator lv av h0 QR QX := Ct.start F (by decide +kernel) hn hls body
theorem lk_X0_295_J2 : jLkU RX0 295 ⟨"java/util/LinkedHashMap", "size", "()I"⟩ yJ1_size RJ2 0 := ⟨"java/util/HashMap", q2562, q2563, Or.inl q2564, ⟨by decide, by decide⟩, q2565, q2566, jNp_of (by decide +kernel)⟩
abbrev wJ1_size : List Cond := ws_ yJ1_size cJ1_size 1 ((some .int))
theorem ce_J1_size : jCe yJ1_size cJ1_size 1 ((some .int)) := ⟨q2567, q73, by decide⟩
theorem st_J1_size {K : JK} {l : Launch} {lv : Nat} {av : List Value} {h0 : JIH} {QR : JQR} {QX : JQX} (F : JF K) {ls : List (Option Value)} (hls : jent av 1 = ls) (hn : (jsl av).length ≤ 1 := by first | exact Nat.le_of_ble_eq_true rfl | (simp [jsl, jcat_v]; done)) (body : ∀ M : JM, JX M K l cJ1_size RJ1 1 ((some .int)) "size" [] lv h0 QR QX → J M h0 0 ls []) : Ct K l yJ1_size wJ1_size lv av h0 QR QX := Ct.start F (by decide +kernel) hn hls body
theorem fl_X0_296_X0 : jFL RX0 296 0 8 := ⟨RX0, TX0, 15, "SegmentedCache", rfl, by decide, Or.inl q442, Or.inl rfl⟩
theorem pl_X0_296_X0 (nm : String) : jPL RX0 nm 296 0 8 (.int) := ⟨RX0, TX0, 15, "SegmentedCache", rfl, by decide, Or.inl ⟨Or.inl q442, rfl⟩, Or.inl rfl, by decide +kernel⟩
theorem lk_X0_315 : jLkS RX0 315 yX0_isTape 1 := ⟨q2594, q2595, ⟨by decide, by decide⟩, jNp_of (by decide +kernel)⟩
abbrev wX0_isTape : List Cond := ws_ yX0_isTape cX0_isTape 1 ((some .boolean))
theorem ce_X0_isTape : jCe yX0_isTape cX0_isTape 1 ((some .boolean)) := ⟨q2596, q69, by decide⟩
theorem st_X0_isTape {K : JK} {l : Launch} {lv : Nat} {av : List Value} {h0 : JIH} {QR : JQR} {QX : JQX} (F : JF K) {ls : List (Option Value)} (hls : jent av 1 = ls) (hn : (jsl av).length ≤ 1 := by first | exact Nat.le_of_ble_eq_true rfl | (simp [jsl, jcat_v]; done)) (body : ∀ M : JM, JX M K l cX0_isTape RX0 1 ((some .boolean)) "isTape" [] lv h0 QR QX → J M h0 0 ls []) : Ct K l yX0_isTape wX0_isTape lv av h0 QR QX := Ct.start F (by decide +kernel) hn hls body
theorem fl_X0_318_X4 : jFL RX0 318 4 0 := ⟨RX4, TX4, 1, "SegmentedCache$Tape", rfl, by decide, Or.inr ⟨_, q430⟩, Or.inl rfl⟩
theorem cl_X0_322 : jCL RX0 322 "[S" := q2597
theorem lk_X0_324_X0 : jLkV RX0 324 yX0_firstOther RX0 2 := ⟨q2598, q2600, qs44, ⟨by decide, by decide⟩, jNp_of (by decide +kernel)⟩
abbrev hxX0_firstOther : List (Nat × Nat × Nat × Nat) := [(2, 91, 101, 313), (92, 100, 101, 313), (2, 91, 108, 245), (92, 100, 108, 245)]
abbrev wX0_firstOther : List Cond := wsW_ yX0_firstOther cX0_firstOther 8 (some .int) hxX0_firstOther
theorem ce_X0_firstOther : jCeW yX0_firstOther cX0_firstOther 8 (some .int) hxX0_firstOther := ⟨q2601, q69, by decide⟩
theorem st_X0_firstOther {K : JK} {l : Launch} {lv : Nat} {av : List Value} {h0 : JIH} {QR : JQR} {QX : JQX} (F : JF K) {ls : List (Option Value)} (hls : jent av 8 = ls) (hn : (jsl av).length ≤ 8 := by first | exact Nat.le_of_ble_eq_true rfl | (simp [jsl, jcat_v]; done)) (body : ∀ M : JM, JX M K l cX0_firstOther RX0 8 (some .int) "firstOther" hxX0_firstOther lv h0 QR QX → J M h0 0 ls []) : Ct K l yX0_firstOther wX0_firstOther lv av h0 QR QX := Ct.startH F (by decide +kernel) hn hls body
theorem fl_X0_299_X1 : jFL RX0 299 1 10 := ⟨RX1, TX1, 16, "SegmentedCache$Cache", rfl, by decide, Or.inr ⟨_, q274⟩, Or.inl rfl⟩
theorem lk_X0_303_J2 : jLkV RX0 303 yJ2_keySet RJ2 0 := ⟨q2604, q2103, q2104, ⟨by decide, by decide⟩, jNp_of (by decide +kernel)⟩
abbrev wJ2_keySet : List Cond := ws_ yJ2_keySet cJ2_keySet 1 ((Option.some (.object "java/util/Set")))
theorem ce_J2_keySet : jCe yJ2_keySet cJ2_keySet 1 ((Option.some (.object "java/util/Set"))) := ⟨q2105, q74, by decide⟩
theorem st_J2_keySet {K : JK} {l : Launch} {lv : Nat} {av : List Value} {h0 : JIH} {QR : JQR} {QX : JQX} (F : JF K) {ls : List (Option Value)} (hls : jent av 1 = ls) (hn : (jsl av).length ≤ 1 := by first | exact Nat.le_of_ble_eq_true rfl | (simp [jsl, jcat_v]; done)) (body : ∀ M : JM, JX M K l cJ2_keySet RJ2 1 ((Option.some (.object "java/util/Set"))) "keySet" [] lv h0 QR QX → J M h0 0 ls []) : Ct K l yJ2_keySet wJ2_keySet lv av h0 QR QX := Ct.start F (by decide +kernel) hn hls body
theorem lk_X0_307_J10 : jLkF RX0 307 ⟨"java/util/Set", "iterator", "()Ljava/util/Iterator;"⟩ yJ10_iterator RJ10 0 := ⟨q2606, q536, q535, q538, q540, q541, q539, q537, ⟨by decide, by decide⟩, jNp_of (by decide +kernel)⟩
theorem lk_X0_307_J37 : jLkF RX0 307 ⟨"java/util/Set", "iterator", "()Ljava/util/Iterator;"⟩ yJ37_iterator RJ37 0 := ⟨q2606, q536, q535, q569, q571, q572, q570, q568, ⟨by decide, by decide⟩, jNp_of (by decide +kernel)⟩
theorem cl_X0_245 : jCL RX0 245 "SegmentedCache$Off" := q2248
theorem lk_X0_310 : jLkI RX0 310 yX11_init 1 := ⟨rfl, q2607, q2304, ⟨by decide, by decide⟩, jNp_of (by decide +kernel)⟩
abbrev wX11_init : List Cond := ws_ yX11_init cX11_init 2 (none)
theorem ce_X11_init : jCe yX11_init cX11_init 2 (none) := ⟨q2305, q122, by decide⟩
theorem st_X11_init {K : JK} {l : Launch} {lv : Nat} {av : List Value} {h0 : JIH} {QR : JQR} {QX : JQX} (F : JF K) {ls : List (Option Value)} (hls : jent av 2 = ls) (hn : (jsl av).length ≤ 2 := by first | exact Nat.le_of_ble_eq_true rfl | (simp [jsl, jcat_v]; done)) (body : ∀ M : JM, JX M K l cX11_init RX11 2 (none) "<init>" [] lv h0 QR QX → J M h0 0 ls []) : Ct K l yX11_init wX11_init lv av h0 QR QX := Ct.start F (by decide +kernel) hn hls body
theorem lk_X0_333_X1 : jLkV RX0 333 yX1_takes RX1 1 := ⟨q2612, q2613, q2614, ⟨by decide, by decide⟩, jNp_of (by decide +kernel)⟩
abbrev wX1_takes : List Cond := ws_ yX1_takes cX1_takes 4 (none)
theorem ce_X1_takes : jCe yX1_takes cX1_takes 4 (none) := ⟨q2615, q70, by decide⟩
theorem st_X1_takes {K : JK} {l : Launch} {lv : Nat} {av : List Value} {h0 : JIH} {QR : JQR} {QX : JQX} (F : JF K) {ls : List (Option Value)} (hls : jent av 4 = ls) (hn : (jsl av).length ≤ 4 := by first | exact Nat.le_of_ble_eq_true rfl | (simp [jsl, jcat_v]; done)) (body : ∀ M : JM, JX M K l cX1_takes RX1 4 (none) "takes" [] lv h0 QR QX → J M h0 0 ls []) : Ct K l yX1_takes wX1_takes lv av h0 QR QX := Ct.start F (by decide +kernel) hn hls body
theorem fl_X0_342_X0 : jFL RX0 342 0 13 := ⟨RX0, TX0, 15, "SegmentedCache", rfl, by decide, Or.inl q447, Or.inl rfl⟩
theorem pl_X0_342_X0 (nm : String) : jPL RX0 nm 342 0 13 (.int) := ⟨RX0, TX0, 15, "SegmentedCache", rfl, by decide, Or.inl ⟨Or.inl q447, rfl⟩, Or.inl rfl, by decide +kernel⟩
theorem fl_X0_345_X0 : jFL RX0 345 0 14 := ⟨RX0, TX0, 15, "SegmentedCache", rfl, by decide, Or.inl q448, Or.inl rfl⟩
theorem pl_X0_345_X0 (nm : String) : jPL RX0 nm 345 0 14 (.boolean) := ⟨RX0, TX0, 15, "SegmentedCache", rfl, by decide, Or.inl ⟨Or.inl q448, rfl⟩, Or.inl rfl, by decide +kernel⟩
theorem lk_X0_348 : jLkS RX0 348 yX0_things 1 := ⟨q2644, q2645, ⟨by decide, by decide⟩, jNp_of (by decide +kernel)⟩
abbrev wX0_things : List Cond := ws_ yX0_things cX0_things 1 ((some .int))
theorem ce_X0_things : jCe yX0_things cX0_things 1 ((some .int)) := ⟨q2646, q69, by decide⟩
theorem st_X0_things {K : JK} {l : Launch} {lv : Nat} {av : List Value} {h0 : JIH} {QR : JQR} {QX : JQX} (F : JF K) {ls : List (Option Value)} (hls : jent av 1 = ls) (hn : (jsl av).length ≤ 1 := by first | exact Nat.le_of_ble_eq_true rfl | (simp [jsl, jcat_v]; done)) (body : ∀ M : JM, JX M K l cX0_things RX0 1 ((some .int)) "things" [] lv h0 QR QX → J M h0 0 ls []) : Ct K l yX0_things wX0_things lv av h0 QR QX := Ct.start F (by decide +kernel) hn hls body
theorem fl_X0_330_X1 : jFL RX0 330 1 11 := ⟨RX1, TX1, 16, "SegmentedCache$Cache", rfl, by decide, Or.inr ⟨_, q277⟩, Or.inl rfl⟩
theorem lk_X0_351 : jLkS RX0 351 yX0_rowOf 2 := ⟨q2663, q2664, ⟨by decide, by decide⟩, jNp_of (by decide +kernel)⟩
abbrev wX0_rowOf : List Cond := ws_ yX0_rowOf cX0_rowOf 2 ((Option.some (.object "java/lang/Object")))
theorem ce_X0_rowOf : jCe yX0_rowOf cX0_rowOf 2 ((Option.some (.object "java/lang/Object"))) := ⟨q2665, q69, by decide⟩
theorem st_X0_rowOf {K : JK} {l : Launch} {lv : Nat} {av : List Value} {h0 : JIH} {QR : JQR} {QX : JQX} (F : JF K) {ls : List (Option Value)} (hls : jent av 2 = ls) (hn : (jsl av).length ≤ 2 := by first | exact Nat.le_of_ble_eq_true rfl | (simp [jsl, jcat_v]; done)) (body : ∀ M : JM, JX M K l cX0_rowOf RX0 2 ((Option.some (.object "java/lang/Object"))) "rowOf" [] lv h0 QR QX → J M h0 0 ls []) : Ct K l yX0_rowOf wX0_rowOf lv av h0 QR QX := Ct.start F (by decide +kernel) hn hls body
theorem pl_X0_318_X4 (nm : String) : jPL RX0 nm 318 4 0 (.object "java/lang/Object") := ⟨RX4, TX4, 1, "SegmentedCache$Tape", rfl, by decide, Or.inl ⟨Or.inr ⟨_, q430⟩, rfl⟩, Or.inl rfl, by decide +kernel⟩
theorem lk_X0_357_X4 : jLkVN RX0 357 yX4_has RX4 1 := ⟨⟨_, q2672⟩, q2674, qs45, ⟨by decide, by decide⟩, jNp_of (by decide +kernel)⟩
abbrev wX4_has : List Cond := ws_ yX4_has cX4_has 2 (none)
theorem ce_X4_has : jCe yX4_has cX4_has 2 (none) := ⟨q2675, q81, by decide⟩
theorem st_X4_has {K : JK} {l : Launch} {lv : Nat} {av : List Value} {h0 : JIH} {QR : JQR} {QX : JQX} (F : JF K) {ls : List (Option Value)} (hls : jent av 2 = ls) (hn : (jsl av).length ≤ 2 := by first | exact Nat.le_of_ble_eq_true rfl | (simp [jsl, jcat_v]; done)) (body : ∀ M : JM, JX M K l cX4_has RX4 2 (none) "has" [] lv h0 QR QX → J M h0 0 ls []) : Ct K l yX4_has wX4_has lv av h0 QR QX := Ct.start F (by decide +kernel) hn hls body
theorem cl_X0_360 : jCL RX0 360 "[B" := q2688
theorem cl_X0_361 : jCL RX0 361 "[I" := q2689
theorem cl_X0_362 : jCL RX0 362 "[J" := q2690
theorem cl_X0_364 : jCL RX0 364 "[Z" := q2691
theorem lk_X0_366_X4 : jLkVN RX0 366 yX4_size RX4 0 := ⟨⟨_, q2696⟩, q2680, qs46, ⟨by decide, by decide⟩, jNp_of (by decide +kernel)⟩
abbrev wX4_size : List Cond := ws_ yX4_size cX4_size 3 ((some .int))
theorem ce_X4_size : jCe yX4_size cX4_size 3 ((some .int)) := ⟨q2681, q81, by decide⟩
theorem st_X4_size {K : JK} {l : Launch} {lv : Nat} {av : List Value} {h0 : JIH} {QR : JQR} {QX : JQX} (F : JF K) {ls : List (Option Value)} (hls : jent av 3 = ls) (hn : (jsl av).length ≤ 3 := by first | exact Nat.le_of_ble_eq_true rfl | (simp [jsl, jcat_v]; done)) (body : ∀ M : JM, JX M K l cX4_size RX4 3 ((some .int)) "size" [] lv h0 QR QX → J M h0 0 ls []) : Ct K l yX4_size wX4_size lv av h0 QR QX := Ct.start F (by decide +kernel) hn hls body
theorem lk_X1_3 : Cond.methodLink RX1 3 objectInit ∈ lw_all := q145
theorem fl_X1_9_X1 : jFL RX1 9 1 0 := ⟨RX1, TX1, 16, "SegmentedCache$Cache", rfl, by decide, Or.inl q248, Or.inl rfl⟩
theorem pl_X1_9_X1 (nm : String) : jPL RX1 nm 9 1 0 (.int) := ⟨RX1, TX1, 16, "SegmentedCache$Cache", rfl, by decide, Or.inl ⟨Or.inl q248, rfl⟩, Or.inl rfl, by decide +kernel⟩
theorem fl_X1_15_X1 : jFL RX1 15 1 1 := ⟨RX1, TX1, 16, "SegmentedCache$Cache", rfl, by decide, Or.inl q251, Or.inl rfl⟩
theorem pl_X1_15_X1 (nm : String) : jPL RX1 nm 15 1 1 (.int) := ⟨RX1, TX1, 16, "SegmentedCache$Cache", rfl, by decide, Or.inl ⟨Or.inl q251, rfl⟩, Or.inl rfl, by decide +kernel⟩
theorem fl_X1_18_X1 : jFL RX1 18 1 2 := ⟨RX1, TX1, 16, "SegmentedCache$Cache", rfl, by decide, Or.inl q254, Or.inl rfl⟩
theorem pl_X1_18_X1 (nm : String) : jPL RX1 nm 18 1 2 (.int) := ⟨RX1, TX1, 16, "SegmentedCache$Cache", rfl, by decide, Or.inl ⟨Or.inl q254, rfl⟩, Or.inl rfl, by decide +kernel⟩
theorem fl_X1_21_X1 : jFL RX1 21 1 3 := ⟨RX1, TX1, 16, "SegmentedCache$Cache", rfl, by decide, Or.inl q257, Or.inl rfl⟩
theorem pl_X1_21_X1 (nm : String) : jPL RX1 nm 21 1 3 (.int) := ⟨RX1, TX1, 16, "SegmentedCache$Cache", rfl, by decide, Or.inl ⟨Or.inl q257, rfl⟩, Or.inl rfl, by decide +kernel⟩
theorem cl_X1_24 : jCL RX1 24 "SegmentedCache$Cache$Queue" := q146
theorem lk_X1_26 : jLkIN RX1 26 yX2_init 1 := ⟨rfl, ⟨_, q148⟩, q149, ⟨by decide, by decide⟩, jNp_of (by decide +kernel)⟩
abbrev wX2_init : List Cond := ws_ yX2_init cX2_init 2 (none)
theorem ce_X2_init : jCe yX2_init cX2_init 2 (none) := ⟨q150, q71, by decide⟩
theorem st_X2_init {K : JK} {l : Launch} {lv : Nat} {av : List Value} {h0 : JIH} {QR : JQR} {QX : JQX} (F : JF K) {ls : List (Option Value)} (hls : jent av 2 = ls) (hn : (jsl av).length ≤ 2 := by first | exact Nat.le_of_ble_eq_true rfl | (simp [jsl, jcat_v]; done)) (body : ∀ M : JM, JX M K l cX2_init RX2 2 (none) "<init>" [] lv h0 QR QX → J M h0 0 ls []) : Ct K l yX2_init wX2_init lv av h0 QR QX := Ct.start F (by decide +kernel) hn hls body
theorem fl_X1_29_X1 : jFL RX1 29 1 10 := ⟨RX1, TX1, 16, "SegmentedCache$Cache", rfl, by decide, Or.inl q272, Or.inl rfl⟩
theorem pl_X1_29_X1 : jPL RX1 "<init>" 29 1 10 (.object "SegmentedCache$Cache$Queue") := ⟨RX1, TX1, 16, "SegmentedCache$Cache", rfl, by decide, Or.inr ⟨q272, rfl, rfl, rfl⟩, Or.inl rfl, by decide +kernel⟩
theorem fl_X1_33_X1 : jFL RX1 33 1 11 := ⟨RX1, TX1, 16, "SegmentedCache$Cache", rfl, by decide, Or.inl q275, Or.inl rfl⟩
theorem pl_X1_33_X1 : jPL RX1 "<init>" 33 1 11 (.object "SegmentedCache$Cache$Queue") := ⟨RX1, TX1, 16, "SegmentedCache$Cache", rfl, by decide, Or.inr ⟨q275, rfl, rfl, rfl⟩, Or.inl rfl, by decide +kernel⟩
theorem fl_X1_36_X1 : jFL RX1 36 1 12 := ⟨RX1, TX1, 16, "SegmentedCache$Cache", rfl, by decide, Or.inl q278, Or.inl rfl⟩
theorem pl_X1_36_X1 : jPL RX1 "<init>" 36 1 12 (.object "SegmentedCache$Cache$Queue") := ⟨RX1, TX1, 16, "SegmentedCache$Cache", rfl, by decide, Or.inr ⟨q278, rfl, rfl, rfl⟩, Or.inl rfl, by decide +kernel⟩
theorem fl_X1_39_X1 : jFL RX1 39 1 13 := ⟨RX1, TX1, 16, "SegmentedCache$Cache", rfl, by decide, Or.inl q279, Or.inl rfl⟩
theorem pl_X1_39_X1 : jPL RX1 "<init>" 39 1 13 (.object "SegmentedCache$Cache$Queue") := ⟨RX1, TX1, 16, "SegmentedCache$Cache", rfl, by decide, Or.inr ⟨q279, rfl, rfl, rfl⟩, Or.inl rfl, by decide +kernel⟩
theorem cl_X1_42 : jCL RX1 42 "java/util/ArrayDeque" := q225
theorem lk_X1_44 : jLkI RX1 44 yJ4_init 0 := ⟨rfl, q227, q228, ⟨by decide, by decide⟩, jNp_of (by decide +kernel)⟩
abbrev wJ4_init : List Cond := ws_ yJ4_init cJ4_init 1 (none)
theorem ce_J4_init : jCe yJ4_init cJ4_init 1 (none) := ⟨q229, q76, by decide⟩
theorem st_J4_init {K : JK} {l : Launch} {lv : Nat} {av : List Value} {h0 : JIH} {QR : JQR} {QX : JQX} (F : JF K) {ls : List (Option Value)} (hls : jent av 1 = ls) (hn : (jsl av).length ≤ 1 := by first | exact Nat.le_of_ble_eq_true rfl | (simp [jsl, jcat_v]; done)) (body : ∀ M : JM, JX M K l cJ4_init RJ4 1 (none) "<init>" [] lv h0 QR QX → J M h0 0 ls []) : Ct K l yJ4_init wJ4_init lv av h0 QR QX := Ct.start F (by decide +kernel) hn hls body
theorem fl_X1_45_X1 : jFL RX1 45 1 14 := ⟨RX1, TX1, 16, "SegmentedCache$Cache", rfl, by decide, Or.inl q280, Or.inl rfl⟩
theorem pl_X1_45_X1 : jPL RX1 "<init>" 45 1 14 (.object "java/util/ArrayDeque") := ⟨RX1, TX1, 16, "SegmentedCache$Cache", rfl, by decide, Or.inr ⟨q280, rfl, rfl, rfl⟩, Or.inl rfl, by decide +kernel⟩
theorem fl_X1_157_X2 : jFL RX1 157 2 1 := ⟨RX2, TX2, 3, "SegmentedCache$Cache$Queue", rfl, by decide, Or.inr ⟨_, q216⟩, Or.inl rfl⟩
theorem lk_X1_158_X1 : jLkV RX1 158 yX1_falls RX1 0 := ⟨q500, q502, qs1, ⟨by decide, by decide⟩, jNp_of (by decide +kernel)⟩
abbrev wX1_falls : List Cond := ws_ yX1_falls cX1_falls 2 ((some .boolean))
theorem ce_X1_falls : jCe yX1_falls cX1_falls 2 ((some .boolean)) := ⟨q503, q70, by decide⟩
theorem st_X1_falls {K : JK} {l : Launch} {lv : Nat} {av : List Value} {h0 : JIH} {QR : JQR} {QX : JQX} (F : JF K) {ls : List (Option Value)} (hls : jent av 2 = ls) (hn : (jsl av).length ≤ 2 := by first | exact Nat.le_of_ble_eq_true rfl | (simp [jsl, jcat_v]; done)) (body : ∀ M : JM, JX M K l cX1_falls RX1 2 ((some .boolean)) "falls" [] lv h0 QR QX → J M h0 0 ls []) : Ct K l yX1_falls wX1_falls lv av h0 QR QX := Ct.start F (by decide +kernel) hn hls body
theorem fl_X1_67_X1 : jFL RX1 67 1 15 := ⟨RX1, TX1, 16, "SegmentedCache$Cache", rfl, by decide, Or.inl q282, Or.inl rfl⟩
theorem lk_X1_161_X1 : jLkV RX1 161 yX1_goesFromProbation RX1 0 := ⟨q1868, q1870, qs11, ⟨by decide, by decide⟩, jNp_of (by decide +kernel)⟩
abbrev wX1_goesFromProbation : List Cond := ws_ yX1_goesFromProbation cX1_goesFromProbation 3 ((some .boolean))
theorem ce_X1_goesFromProbation : jCe yX1_goesFromProbation cX1_goesFromProbation 3 ((some .boolean)) := ⟨q1871, q70, by decide⟩
theorem st_X1_goesFromProbation {K : JK} {l : Launch} {lv : Nat} {av : List Value} {h0 : JIH} {QR : JQR} {QX : JQX} (F : JF K) {ls : List (Option Value)} (hls : jent av 3 = ls) (hn : (jsl av).length ≤ 3 := by first | exact Nat.le_of_ble_eq_true rfl | (simp [jsl, jcat_v]; done)) (body : ∀ M : JM, JX M K l cX1_goesFromProbation RX1 3 ((some .boolean)) "goesFromProbation" [] lv h0 QR QX → J M h0 0 ls []) : Ct K l yX1_goesFromProbation wX1_goesFromProbation lv av h0 QR QX := Ct.start F (by decide +kernel) hn hls body
theorem lk_X1_164_X1 : jLkV RX1 164 yX1_goesFromProtected RX1 0 := ⟨q1974, q1976, qs15, ⟨by decide, by decide⟩, jNp_of (by decide +kernel)⟩
abbrev wX1_goesFromProtected : List Cond := ws_ yX1_goesFromProtected cX1_goesFromProtected 2 ((some .boolean))
theorem ce_X1_goesFromProtected : jCe yX1_goesFromProtected cX1_goesFromProtected 2 ((some .boolean)) := ⟨q1977, q70, by decide⟩
theorem st_X1_goesFromProtected {K : JK} {l : Launch} {lv : Nat} {av : List Value} {h0 : JIH} {QR : JQR} {QX : JQX} (F : JF K) {ls : List (Option Value)} (hls : jent av 2 = ls) (hn : (jsl av).length ≤ 2 := by first | exact Nat.le_of_ble_eq_true rfl | (simp [jsl, jcat_v]; done)) (body : ∀ M : JM, JX M K l cX1_goesFromProtected RX1 2 ((some .boolean)) "goesFromProtected" [] lv h0 QR QX → J M h0 0 ls []) : Ct K l yX1_goesFromProtected wX1_goesFromProtected lv av h0 QR QX := Ct.start F (by decide +kernel) hn hls body
theorem lk_X1_167_X1 : jLkV RX1 167 yX1_fades RX1 1 := ⟨q1979, q1981, qs16, ⟨by decide, by decide⟩, jNp_of (by decide +kernel)⟩
abbrev wX1_fades : List Cond := ws_ yX1_fades cX1_fades 3 (none)
theorem ce_X1_fades : jCe yX1_fades cX1_fades 3 (none) := ⟨q1982, q70, by decide⟩
theorem st_X1_fades {K : JK} {l : Launch} {lv : Nat} {av : List Value} {h0 : JIH} {QR : JQR} {QX : JQX} (F : JF K) {ls : List (Option Value)} (hls : jent av 3 = ls) (hn : (jsl av).length ≤ 3 := by first | exact Nat.le_of_ble_eq_true rfl | (simp [jsl, jcat_v]; done)) (body : ∀ M : JM, JX M K l cX1_fades RX1 3 (none) "fades" [] lv h0 QR QX → J M h0 0 ls []) : Ct K l yX1_fades wX1_fades lv av h0 QR QX := Ct.start F (by decide +kernel) hn hls body
theorem lk_X1_133_X2 : jLkV RX1 133 yX2_oldest RX2 0 := ⟨q504, q505, q506, ⟨by decide, by decide⟩, jNp_of (by decide +kernel)⟩
abbrev wX2_oldest : List Cond := ws_ yX2_oldest cX2_oldest 4 ((Option.some (.object "SegmentedCache$Going")))
theorem ce_X2_oldest : jCe yX2_oldest cX2_oldest 4 ((Option.some (.object "SegmentedCache$Going"))) := ⟨q507, q71, by decide⟩
theorem st_X2_oldest {K : JK} {l : Launch} {lv : Nat} {av : List Value} {h0 : JIH} {QR : JQR} {QX : JQX} (F : JF K) {ls : List (Option Value)} (hls : jent av 4 = ls) (hn : (jsl av).length ≤ 4 := by first | exact Nat.le_of_ble_eq_true rfl | (simp [jsl, jcat_v]; done)) (body : ∀ M : JM, JX M K l cX2_oldest RX2 4 ((Option.some (.object "SegmentedCache$Going"))) "oldest" [] lv h0 QR QX → J M h0 0 ls []) : Ct K l yX2_oldest wX2_oldest lv av h0 QR QX := Ct.start F (by decide +kernel) hn hls body
theorem fl_X1_137_X6 : jFL RX1 137 6 1 := ⟨RX6, TX6, 2, "SegmentedCache$Going", rfl, by decide, Or.inr ⟨_, q1225⟩, Or.inl rfl⟩
theorem fl_X1_154_X7 : jFL RX1 154 7 3 := ⟨RX7, TX7, 6, "SegmentedCache$Thing", rfl, by decide, Or.inr ⟨_, q1898⟩, Or.inl rfl⟩
theorem pl_X1_154_X7 (nm : String) : jPL RX1 nm 154 7 3 (.int) := ⟨RX7, TX7, 6, "SegmentedCache$Thing", rfl, by decide, Or.inl ⟨Or.inr ⟨_, q1898⟩, rfl⟩, Or.inl rfl, by decide +kernel⟩
theorem fl_X1_146_X6 : jFL RX1 146 6 0 := ⟨RX6, TX6, 2, "SegmentedCache$Going", rfl, by decide, Or.inr ⟨_, q1223⟩, Or.inl rfl⟩
theorem lk_X1_119_X2 : jLkV RX1 119 yX2_adds RX2 2 := ⟨q1666, q1667, q1668, ⟨by decide, by decide⟩, jNp_of (by decide +kernel)⟩
abbrev wX2_adds : List Cond := ws_ yX2_adds cX2_adds 3 (none)
theorem ce_X2_adds : jCe yX2_adds cX2_adds 3 (none) := ⟨q1669, q71, by decide⟩
theorem st_X2_adds {K : JK} {l : Launch} {lv : Nat} {av : List Value} {h0 : JIH} {QR : JQR} {QX : JQX} (F : JF K) {ls : List (Option Value)} (hls : jent av 3 = ls) (hn : (jsl av).length ≤ 3 := by first | exact Nat.le_of_ble_eq_true rfl | (simp [jsl, jcat_v]; done)) (body : ∀ M : JM, JX M K l cX2_adds RX2 3 (none) "adds" [] lv h0 QR QX → J M h0 0 ls []) : Ct K l yX2_adds wX2_adds lv av h0 QR QX := Ct.start F (by decide +kernel) hn hls body
theorem fl_X1_143_X7 : jFL RX1 143 7 4 := ⟨RX7, TX7, 6, "SegmentedCache$Thing", rfl, by decide, Or.inr ⟨_, q1902⟩, Or.inl rfl⟩
theorem pl_X1_143_X7 (nm : String) : jPL RX1 nm 143 7 4 (.int) := ⟨RX7, TX7, 6, "SegmentedCache$Thing", rfl, by decide, Or.inl ⟨Or.inr ⟨_, q1902⟩, rfl⟩, Or.inl rfl, by decide +kernel⟩
theorem lk_X1_150_X1 : jLkV RX1 150 yX1_goes RX1 3 := ⟨q1872, q1874, qs12, ⟨by decide, by decide⟩, jNp_of (by decide +kernel)⟩
abbrev wX1_goes : List Cond := ws_ yX1_goes cX1_goes 4 (none)
theorem ce_X1_goes : jCe yX1_goes cX1_goes 4 (none) := ⟨q1875, q70, by decide⟩
theorem st_X1_goes {K : JK} {l : Launch} {lv : Nat} {av : List Value} {h0 : JIH} {QR : JQR} {QX : JQX} (F : JF K) {ls : List (Option Value)} (hls : jent av 4 = ls) (hn : (jsl av).length ≤ 4 := by first | exact Nat.le_of_ble_eq_true rfl | (simp [jsl, jcat_v]; done)) (body : ∀ M : JM, JX M K l cX1_goes RX1 4 (none) "goes" [] lv h0 QR QX → J M h0 0 ls []) : Ct K l yX1_goes wX1_goes lv av h0 QR QX := Ct.start F (by decide +kernel) hn hls body
theorem cl_X1_111 : jCL RX1 111 "SegmentedCache$Thing" := q1876
theorem fl_X1_113_X7 : jFL RX1 113 7 1 := ⟨RX7, TX7, 6, "SegmentedCache$Thing", rfl, by decide, Or.inr ⟨_, q1891⟩, Or.inl rfl⟩
theorem lk_X1_116 : jLkI RX1 116 yX7_init 1 := ⟨rfl, q1878, q1879, ⟨by decide, by decide⟩, jNp_of (by decide +kernel)⟩
abbrev wX7_init : List Cond := ws_ yX7_init cX7_init 2 (none)
theorem ce_X7_init : jCe yX7_init cX7_init 2 (none) := ⟨q1880, q115, by decide⟩
theorem st_X7_init {K : JK} {l : Launch} {lv : Nat} {av : List Value} {h0 : JIH} {QR : JQR} {QX : JQX} (F : JF K) {ls : List (Option Value)} (hls : jent av 2 = ls) (hn : (jsl av).length ≤ 2 := by first | exact Nat.le_of_ble_eq_true rfl | (simp [jsl, jcat_v]; done)) (body : ∀ M : JM, JX M K l cX7_init RX7 2 (none) "<init>" [] lv h0 QR QX → J M h0 0 ls []) : Ct K l yX7_init wX7_init lv av h0 QR QX := Ct.start F (by decide +kernel) hn hls body
theorem lk_X1_123_J4 : jLkV RX1 123 yJ4_addFirst RJ4 1 := ⟨q1921, q1922, q1923, ⟨by decide, by decide⟩, jNp_of (by decide +kernel)⟩
abbrev wJ4_addFirst : List Cond := ws_ yJ4_addFirst cJ4_addFirst 3 (none)
theorem ce_J4_addFirst : jCe yJ4_addFirst cJ4_addFirst 3 (none) := ⟨q1924, q76, by decide⟩
theorem st_J4_addFirst {K : JK} {l : Launch} {lv : Nat} {av : List Value} {h0 : JIH} {QR : JQR} {QX : JQX} (F : JF K) {ls : List (Option Value)} (hls : jent av 3 = ls) (hn : (jsl av).length ≤ 3 := by first | exact Nat.le_of_ble_eq_true rfl | (simp [jsl, jcat_v]; done)) (body : ∀ M : JM, JX M K l cJ4_addFirst RJ4 3 (none) "addFirst" [] lv h0 QR QX → J M h0 0 ls []) : Ct K l yJ4_addFirst wJ4_addFirst lv av h0 QR QX := Ct.start F (by decide +kernel) hn hls body
theorem lk_X1_126_J4 : jLkV RX1 126 yJ4_size RJ4 0 := ⟨q1963, q1964, q1965, ⟨by decide, by decide⟩, jNp_of (by decide +kernel)⟩
theorem lk_X1_130_J4 : jLkV RX1 130 yJ4_pollLast RJ4 0 := ⟨q1967, q1968, q1969, ⟨by decide, by decide⟩, jNp_of (by decide +kernel)⟩
abbrev wJ4_pollLast : List Cond := ws_ yJ4_pollLast cJ4_pollLast 4 ((Option.some (.object "java/lang/Object")))
theorem ce_J4_pollLast : jCe yJ4_pollLast cJ4_pollLast 4 ((Option.some (.object "java/lang/Object"))) := ⟨q1970, q76, by decide⟩
theorem st_J4_pollLast {K : JK} {l : Launch} {lv : Nat} {av : List Value} {h0 : JIH} {QR : JQR} {QX : JQX} (F : JF K) {ls : List (Option Value)} (hls : jent av 4 = ls) (hn : (jsl av).length ≤ 4 := by first | exact Nat.le_of_ble_eq_true rfl | (simp [jsl, jcat_v]; done)) (body : ∀ M : JM, JX M K l cJ4_pollLast RJ4 4 ((Option.some (.object "java/lang/Object"))) "pollLast" [] lv h0 QR QX → J M h0 0 ls []) : Ct K l yJ4_pollLast wJ4_pollLast lv av h0 QR QX := Ct.start F (by decide +kernel) hn hls body
theorem fl_X1_64_X1 : jFL RX1 64 1 9 := ⟨RX1, TX1, 16, "SegmentedCache$Cache", rfl, by decide, Or.inl q270, Or.inl rfl⟩
theorem pl_X1_64_X1 (nm : String) : jPL RX1 nm 64 1 9 (.int) := ⟨RX1, TX1, 16, "SegmentedCache$Cache", rfl, by decide, Or.inl ⟨Or.inl q270, rfl⟩, Or.inl rfl, by decide +kernel⟩
theorem lk_X1_200_X1 : jLkV RX1 200 yX1_thing RX1 1 := ⟨q2014, q2016, qs17, ⟨by decide, by decide⟩, jNp_of (by decide +kernel)⟩
theorem lk_X1_202_X1 : jLkV RX1 202 yX1_changes RX1 5 := ⟨q2029, q2031, qs18, ⟨by decide, by decide⟩, jNp_of (by decide +kernel)⟩
abbrev wX1_changes : List Cond := ws_ yX1_changes cX1_changes 6 (none)
theorem ce_X1_changes : jCe yX1_changes cX1_changes 6 (none) := ⟨q2032, q70, by decide⟩
theorem st_X1_changes {K : JK} {l : Launch} {lv : Nat} {av : List Value} {h0 : JIH} {QR : JQR} {QX : JQX} (F : JF K) {ls : List (Option Value)} (hls : jent av 6 = ls) (hn : (jsl av).length ≤ 6 := by first | exact Nat.le_of_ble_eq_true rfl | (simp [jsl, jcat_v]; done)) (body : ∀ M : JM, JX M K l cX1_changes RX1 6 (none) "changes" [] lv h0 QR QX → J M h0 0 ls []) : Ct K l yX1_changes wX1_changes lv av h0 QR QX := Ct.start F (by decide +kernel) hn hls body
theorem fl_X1_61_X1 : jFL RX1 61 1 8 := ⟨RX1, TX1, 16, "SegmentedCache$Cache", rfl, by decide, Or.inl q268, Or.inl rfl⟩
theorem pl_X1_61_X1 (nm : String) : jPL RX1 nm 61 1 8 (.int) := ⟨RX1, TX1, 16, "SegmentedCache$Cache", rfl, by decide, Or.inl ⟨Or.inl q268, rfl⟩, Or.inl rfl, by decide +kernel⟩
theorem lk_X1_177_X2 : jLkV RX1 177 yX2_loses RX2 1 := ⟨q2051, q2052, q2053, ⟨by decide, by decide⟩, jNp_of (by decide +kernel)⟩
abbrev wX2_loses : List Cond := ws_ yX2_loses cX2_loses 3 ((Option.some (.object "SegmentedCache$Thing")))
theorem ce_X2_loses : jCe yX2_loses cX2_loses 3 ((Option.some (.object "SegmentedCache$Thing"))) := ⟨q2054, q71, by decide⟩
theorem st_X2_loses {K : JK} {l : Launch} {lv : Nat} {av : List Value} {h0 : JIH} {QR : JQR} {QX : JQX} (F : JF K) {ls : List (Option Value)} (hls : jent av 3 = ls) (hn : (jsl av).length ≤ 3 := by first | exact Nat.le_of_ble_eq_true rfl | (simp [jsl, jcat_v]; done)) (body : ∀ M : JM, JX M K l cX2_loses RX2 3 ((Option.some (.object "SegmentedCache$Thing"))) "loses" [] lv h0 QR QX → J M h0 0 ls []) : Ct K l yX2_loses wX2_loses lv av h0 QR QX := Ct.start F (by decide +kernel) hn hls body
theorem lk_X1_206 : jLkS RX1 206 yJ8_max 2 := ⟨q2062, q806, ⟨by decide, by decide⟩, jNp_of (by decide +kernel)⟩
theorem lk_X1_171 : jLkS RX1 171 yJ8_min 2 := ⟨q2050, q494, ⟨by decide, by decide⟩, jNp_of (by decide +kernel)⟩
theorem lk_X1_209 : jLkI RX1 209 yX7_init_2 4 := ⟨rfl, q2063, q1882, ⟨by decide, by decide⟩, jNp_of (by decide +kernel)⟩
abbrev wX7_init_2 : List Cond := ws_ yX7_init_2 cX7_init_2 5 (none)
theorem ce_X7_init_2 : jCe yX7_init_2 cX7_init_2 5 (none) := ⟨q1883, q115, by decide⟩
theorem st_X7_init_2 {K : JK} {l : Launch} {lv : Nat} {av : List Value} {h0 : JIH} {QR : JQR} {QX : JQX} (F : JF K) {ls : List (Option Value)} (hls : jent av 5 = ls) (hn : (jsl av).length ≤ 5 := by first | exact Nat.le_of_ble_eq_true rfl | (simp [jsl, jcat_v]; done)) (body : ∀ M : JM, JX M K l cX7_init_2 RX7 5 (none) "<init>" [] lv h0 QR QX → J M h0 0 ls []) : Ct K l yX7_init_2 wX7_init_2 lv av h0 QR QX := Ct.start F (by decide +kernel) hn hls body
theorem lk_X1_212_X1 : jLkV RX1 212 yX1_trims RX1 0 := ⟨q2064, q497, q498, ⟨by decide, by decide⟩, jNp_of (by decide +kernel)⟩
theorem fl_X1_101_X2 : jFL RX1 101 2 0 := ⟨RX2, TX2, 3, "SegmentedCache$Cache$Queue", rfl, by decide, Or.inr ⟨_, q212⟩, Or.inl rfl⟩
theorem lk_X1_181_J2 : jLkV RX1 181 yJ2_get RJ2 1 := ⟨q2018, q2019, q2020, ⟨by decide, by decide⟩, jNp_of (by decide +kernel)⟩
theorem fl_X1_185_X7 : jFL RX1 185 7 0 := ⟨RX7, TX7, 6, "SegmentedCache$Thing", rfl, by decide, Or.inr ⟨_, q1887⟩, Or.inl rfl⟩
theorem pl_X1_185_X7 (nm : String) : jPL RX1 nm 185 7 0 (.int) := ⟨RX7, TX7, 6, "SegmentedCache$Thing", rfl, by decide, Or.inl ⟨Or.inr ⟨_, q1887⟩, rfl⟩, Or.inl rfl, by decide +kernel⟩
theorem fl_X1_188_X7 : jFL RX1 188 7 2 := ⟨RX7, TX7, 6, "SegmentedCache$Thing", rfl, by decide, Or.inr ⟨_, q1895⟩, Or.inl rfl⟩
theorem pl_X1_188_X7 (nm : String) : jPL RX1 nm 188 7 2 (.int) := ⟨RX7, TX7, 6, "SegmentedCache$Thing", rfl, by decide, Or.inl ⟨Or.inr ⟨_, q1895⟩, rfl⟩, Or.inl rfl, by decide +kernel⟩
theorem lk_X1_191_X1 : jLkV RX1 191 yX1_where RX1 1 := ⟨q2033, q2034, q2035, ⟨by decide, by decide⟩, jNp_of (by decide +kernel)⟩
theorem lk_X1_97_X1 : jLkV RX1 97 yX1_queue RX1 1 := ⟨q2037, q1988, q1989, ⟨by decide, by decide⟩, jNp_of (by decide +kernel)⟩
theorem lk_X1_195_X2 : jLkVN RX1 195 yX2_weighs RX2 1 := ⟨⟨_, q2045⟩, q1660, qs8, ⟨by decide, by decide⟩, jNp_of (by decide +kernel)⟩
abbrev wX2_weighs : List Cond := ws_ yX2_weighs cX2_weighs 2 (none)
theorem ce_X2_weighs : jCe yX2_weighs cX2_weighs 2 (none) := ⟨q1661, q71, by decide⟩
theorem st_X2_weighs {K : JK} {l : Launch} {lv : Nat} {av : List Value} {h0 : JIH} {QR : JQR} {QX : JQX} (F : JF K) {ls : List (Option Value)} (hls : jent av 2 = ls) (hn : (jsl av).length ≤ 2 := by first | exact Nat.le_of_ble_eq_true rfl | (simp [jsl, jcat_v]; done)) (body : ∀ M : JM, JX M K l cX2_weighs RX2 2 (none) "weighs" [] lv h0 QR QX → J M h0 0 ls []) : Ct K l yX2_weighs wX2_weighs lv av h0 QR QX := Ct.start F (by decide +kernel) hn hls body
theorem pl_X1_113_X7 (nm : String) : jPL RX1 nm 113 7 1 (.int) := ⟨RX7, TX7, 6, "SegmentedCache$Thing", rfl, by decide, Or.inl ⟨Or.inr ⟨_, q1891⟩, rfl⟩, Or.inl rfl, by decide +kernel⟩
theorem lk_X1_198_X1 : jLkV RX1 198 yX1_hits RX1 2 := ⟨q2046, q2048, qs19, ⟨by decide, by decide⟩, jNp_of (by decide +kernel)⟩
abbrev wX1_hits : List Cond := ws_ yX1_hits cX1_hits 4 (none)
theorem ce_X1_hits : jCe yX1_hits cX1_hits 4 (none) := ⟨q2049, q70, by decide⟩
theorem st_X1_hits {K : JK} {l : Launch} {lv : Nat} {av : List Value} {h0 : JIH} {QR : JQR} {QX : JQX} (F : JF K) {ls : List (Option Value)} (hls : jent av 4 = ls) (hn : (jsl av).length ≤ 4 := by first | exact Nat.le_of_ble_eq_true rfl | (simp [jsl, jcat_v]; done)) (body : ∀ M : JM, JX M K l cX1_hits RX1 4 (none) "hits" [] lv h0 QR QX → J M h0 0 ls []) : Ct K l yX1_hits wX1_hits lv av h0 QR QX := Ct.start F (by decide +kernel) hn hls body
theorem lk_X1_105_J2 : jLkU RX1 105 ⟨"java/util/LinkedHashMap", "containsKey", "(Ljava/lang/Object;)Z"⟩ yJ1_containsKey RJ2 1 := ⟨"java/util/HashMap", q2038, q2039, Or.inl q2040, ⟨by decide, by decide⟩, q2041, q2042, jNp_of (by decide +kernel)⟩
abbrev wJ1_containsKey : List Cond := ws_ yJ1_containsKey cJ1_containsKey 2 ((some .boolean))
theorem ce_J1_containsKey : jCe yJ1_containsKey cJ1_containsKey 2 ((some .boolean)) := ⟨q2043, q73, by decide⟩
theorem st_J1_containsKey {K : JK} {l : Launch} {lv : Nat} {av : List Value} {h0 : JIH} {QR : JQR} {QX : JQX} (F : JF K) {ls : List (Option Value)} (hls : jent av 2 = ls) (hn : (jsl av).length ≤ 2 := by first | exact Nat.le_of_ble_eq_true rfl | (simp [jsl, jcat_v]; done)) (body : ∀ M : JM, JX M K l cJ1_containsKey RJ1 2 ((some .boolean)) "containsKey" [] lv h0 QR QX → J M h0 0 ls []) : Ct K l yJ1_containsKey wJ1_containsKey lv av h0 QR QX := Ct.start F (by decide +kernel) hn hls body
theorem fl_X1_52_X1 : jFL RX1 52 1 5 := ⟨RX1, TX1, 16, "SegmentedCache$Cache", rfl, by decide, Or.inl q262, Or.inl rfl⟩
theorem pl_X1_52_X1 (nm : String) : jPL RX1 nm 52 1 5 (.int) := ⟨RX1, TX1, 16, "SegmentedCache$Cache", rfl, by decide, Or.inl ⟨Or.inl q262, rfl⟩, Or.inl rfl, by decide +kernel⟩
theorem fl_X1_55_X1 : jFL RX1 55 1 6 := ⟨RX1, TX1, 16, "SegmentedCache$Cache", rfl, by decide, Or.inl q264, Or.inl rfl⟩
theorem pl_X1_55_X1 (nm : String) : jPL RX1 nm 55 1 6 (.int) := ⟨RX1, TX1, 16, "SegmentedCache$Cache", rfl, by decide, Or.inl ⟨Or.inl q264, rfl⟩, Or.inl rfl, by decide +kernel⟩
theorem fl_X1_49_X1 : jFL RX1 49 1 4 := ⟨RX1, TX1, 16, "SegmentedCache$Cache", rfl, by decide, Or.inl q260, Or.inl rfl⟩
theorem pl_X1_49_X1 (nm : String) : jPL RX1 nm 49 1 4 (.int) := ⟨RX1, TX1, 16, "SegmentedCache$Cache", rfl, by decide, Or.inl ⟨Or.inl q260, rfl⟩, Or.inl rfl, by decide +kernel⟩
theorem fl_X1_58_X1 : jFL RX1 58 1 7 := ⟨RX1, TX1, 16, "SegmentedCache$Cache", rfl, by decide, Or.inl q266, Or.inl rfl⟩
theorem pl_X1_58_X1 (nm : String) : jPL RX1 nm 58 1 7 (.int) := ⟨RX1, TX1, 16, "SegmentedCache$Cache", rfl, by decide, Or.inl ⟨Or.inl q266, rfl⟩, Or.inl rfl, by decide +kernel⟩
theorem lk_X1_215_J7 : jLkU RX1 215 ⟨"java/util/LinkedList", "iterator", "()Ljava/util/Iterator;"⟩ yJ6_iterator RJ7 0 := ⟨"java/util/AbstractSequentialList", q2383, q2384, Or.inl q2385, ⟨by decide, by decide⟩, q2386, q2387, jNp_of (by decide +kernel)⟩
theorem lk_X1_81_J38 : jLkF RX1 81 ⟨"java/util/Iterator", "hasNext", "()Z"⟩ yJ38_hasNext RJ38 0 := ⟨q2434, q589, q588, q603, q605, q606, q604, q602, ⟨by decide, by decide⟩, jNp_of (by decide +kernel)⟩
theorem lk_X1_81_J41 : jLkF RX1 81 ⟨"java/util/Iterator", "hasNext", "()Z"⟩ yJ41_hasNext RJ41 0 := ⟨q2434, q589, q588, q621, q623, q624, q622, q620, ⟨by decide, by decide⟩, jNp_of (by decide +kernel)⟩
theorem lk_X1_81_J12 : jLkF RX1 81 ⟨"java/util/Iterator", "hasNext", "()Z"⟩ yJ11_hasNext RJ12 0 := ⟨q2434, q589, q588, q609, q611, q612, q610, q608, ⟨by decide, by decide⟩, jNp_of (by decide +kernel)⟩
theorem lk_X1_81_J13 : jLkF RX1 81 ⟨"java/util/Iterator", "hasNext", "()Z"⟩ yJ11_hasNext RJ13 0 := ⟨q2434, q589, q588, q615, q611, q612, q616, q614, ⟨by decide, by decide⟩, jNp_of (by decide +kernel)⟩
theorem lk_X1_81_J43 : jLkF RX1 81 ⟨"java/util/Iterator", "hasNext", "()Z"⟩ yJ11_hasNext RJ43 0 := ⟨q2434, q589, q588, q618, q611, q612, q619, q617, ⟨by decide, by decide⟩, jNp_of (by decide +kernel)⟩
theorem lk_X1_87_J38 : jLkF RX1 87 ⟨"java/util/Iterator", "next", "()Ljava/lang/Object;"⟩ yJ38_next RJ38 0 := ⟨q2436, q629, q628, q1127, q1129, q1130, q1128, q602, ⟨by decide, by decide⟩, jNp_of (by decide +kernel)⟩
theorem lk_X1_87_J41 : jLkF RX1 87 ⟨"java/util/Iterator", "next", "()Ljava/lang/Object;"⟩ yJ41_next RJ41 0 := ⟨q2436, q629, q628, q1176, q1178, q1179, q1177, q620, ⟨by decide, by decide⟩, jNp_of (by decide +kernel)⟩
theorem lk_X1_87_J12 : jLkF RX1 87 ⟨"java/util/Iterator", "next", "()Ljava/lang/Object;"⟩ yJ12_next RJ12 0 := ⟨q2436, q629, q628, q1138, q1140, q1141, q1139, q608, ⟨by decide, by decide⟩, jNp_of (by decide +kernel)⟩
theorem lk_X1_87_J13 : jLkF RX1 87 ⟨"java/util/Iterator", "next", "()Ljava/lang/Object;"⟩ yJ13_next RJ13 0 := ⟨q2436, q629, q628, q1153, q1155, q1156, q1154, q614, ⟨by decide, by decide⟩, jNp_of (by decide +kernel)⟩
theorem lk_X1_87_J43 : jLkF RX1 87 ⟨"java/util/Iterator", "next", "()Ljava/lang/Object;"⟩ yJ43_next RJ43 0 := ⟨q2436, q629, q628, q1168, q1170, q1171, q1169, q617, ⟨by decide, by decide⟩, jNp_of (by decide +kernel)⟩
theorem cl_X1_218 : jCL RX1 218 "SegmentedCache$Clause" := q2437
theorem fl_X1_220_X10 : jFL RX1 220 10 0 := ⟨RX10, TX10, 3, "SegmentedCache$Clause", rfl, by decide, Or.inr ⟨_, q2323⟩, Or.inl rfl⟩
theorem fl_X1_223_X10 : jFL RX1 223 10 2 := ⟨RX10, TX10, 3, "SegmentedCache$Clause", rfl, by decide, Or.inr ⟨_, q2329⟩, Or.inl rfl⟩
theorem lk_X1_224_X1 : jLkV RX1 224 yX1_gets RX1 1 := ⟨q2438, q2071, q2072, ⟨by decide, by decide⟩, jNp_of (by decide +kernel)⟩
theorem fl_X1_227_X10 : jFL RX1 227 10 1 := ⟨RX10, TX10, 3, "SegmentedCache$Clause", rfl, by decide, Or.inr ⟨_, q2326⟩, Or.inl rfl⟩
theorem lk_X1_228_X1 : jLkV RX1 228 yX1_puts RX1 4 := ⟨q2439, q2011, q2012, ⟨by decide, by decide⟩, jNp_of (by decide +kernel)⟩
theorem lk_X1_232_X1 : jLkV RX1 232 yX1_drops RX1 1 := ⟨q2440, q2079, q2080, ⟨by decide, by decide⟩, jNp_of (by decide +kernel)⟩
theorem pl_X1_67_X1 (nm : String) : jPL RX1 nm 67 1 15 (.int) := ⟨RX1, TX1, 16, "SegmentedCache$Cache", rfl, by decide, Or.inl ⟨Or.inl q282, rfl⟩, Or.inl rfl, by decide +kernel⟩
theorem lk_X1_70_X2 : jLkV RX1 70 yX2_takes RX2 1 := ⟨q2616, q2617, q2618, ⟨by decide, by decide⟩, jNp_of (by decide +kernel)⟩
abbrev wX2_takes : List Cond := ws_ yX2_takes cX2_takes 4 (none)
theorem ce_X2_takes : jCe yX2_takes cX2_takes 4 (none) := ⟨q2619, q71, by decide⟩
theorem st_X2_takes {K : JK} {l : Launch} {lv : Nat} {av : List Value} {h0 : JIH} {QR : JQR} {QX : JQX} (F : JF K) {ls : List (Option Value)} (hls : jent av 4 = ls) (hn : (jsl av).length ≤ 4 := by first | exact Nat.le_of_ble_eq_true rfl | (simp [jsl, jcat_v]; done)) (body : ∀ M : JM, JX M K l cX2_takes RX2 4 (none) "takes" [] lv h0 QR QX → J M h0 0 ls []) : Ct K l yX2_takes wX2_takes lv av h0 QR QX := Ct.start F (by decide +kernel) hn hls body
theorem lk_X1_74_J4 : jLkV RX1 74 yJ4_clear RJ4 0 := ⟨q2630, q2631, q2632, ⟨by decide, by decide⟩, jNp_of (by decide +kernel)⟩
abbrev wJ4_clear : List Cond := ws_ yJ4_clear cJ4_clear 1 (none)
theorem ce_J4_clear : jCe yJ4_clear cJ4_clear 1 (none) := ⟨q2633, q76, by decide⟩
theorem st_J4_clear {K : JK} {l : Launch} {lv : Nat} {av : List Value} {h0 : JIH} {QR : JQR} {QX : JQX} (F : JF K) {ls : List (Option Value)} (hls : jent av 1 = ls) (hn : (jsl av).length ≤ 1 := by first | exact Nat.le_of_ble_eq_true rfl | (simp [jsl, jcat_v]; done)) (body : ∀ M : JM, JX M K l cJ4_clear RJ4 1 (none) "clear" [] lv h0 QR QX → J M h0 0 ls []) : Ct K l yJ4_clear wJ4_clear lv av h0 QR QX := Ct.start F (by decide +kernel) hn hls body
theorem lk_X1_77_J4 : jLkV RX1 77 yJ4_iterator RJ4 0 := ⟨q2637, q2144, q2145, ⟨by decide, by decide⟩, jNp_of (by decide +kernel)⟩
theorem cl_X1_91 : jCL RX1 91 "SegmentedCache$Key" := q2638
theorem lk_X1_93_J4 : jLkV RX1 93 yJ4_addLast RJ4 1 := ⟨q2639, q2640, q2641, ⟨by decide, by decide⟩, jNp_of (by decide +kernel)⟩
abbrev wJ4_addLast : List Cond := ws_ yJ4_addLast cJ4_addLast 3 (none)
theorem ce_J4_addLast : jCe yJ4_addLast cJ4_addLast 3 (none) := ⟨q2642, q76, by decide⟩
theorem st_J4_addLast {K : JK} {l : Launch} {lv : Nat} {av : List Value} {h0 : JIH} {QR : JQR} {QX : JQX} (F : JF K) {ls : List (Option Value)} (hls : jent av 3 = ls) (hn : (jsl av).length ≤ 3 := by first | exact Nat.le_of_ble_eq_true rfl | (simp [jsl, jcat_v]; done)) (body : ∀ M : JM, JX M K l cJ4_addLast RJ4 3 (none) "addLast" [] lv h0 QR QX → J M h0 0 ls []) : Ct K l yJ4_addLast wJ4_addLast lv av h0 QR QX := Ct.start F (by decide +kernel) hn hls body
theorem fl_X2_3_X2 : jFL RX2 3 2 2 := ⟨RX2, TX2, 3, "SegmentedCache$Cache$Queue", rfl, by decide, Or.inl q217, Or.inl rfl⟩
theorem pl_X2_3_X2 : jPL RX2 "<init>" 3 2 2 (.object "SegmentedCache$Cache") := ⟨RX2, TX2, 3, "SegmentedCache$Cache$Queue", rfl, by decide, Or.inr ⟨q217, rfl, rfl, rfl⟩, Or.inl rfl, by decide +kernel⟩
theorem lk_X2_9 : Cond.methodLink RX2 9 objectInit ∈ lw_all := q151
theorem cl_X2_15 : jCL RX2 15 "java/util/LinkedHashMap" := q152
theorem lk_X2_17 : jLkI RX2 17 yJ2_init 0 := ⟨rfl, q154, q155, ⟨by decide, by decide⟩, jNp_of (by decide +kernel)⟩
abbrev wJ2_init : List Cond := ws_ yJ2_init cJ2_init 1 (none)
theorem ce_J2_init : jCe yJ2_init cJ2_init 1 (none) := ⟨q156, q74, by decide⟩
theorem st_J2_init {K : JK} {l : Launch} {lv : Nat} {av : List Value} {h0 : JIH} {QR : JQR} {QX : JQX} (F : JF K) {ls : List (Option Value)} (hls : jent av 1 = ls) (hn : (jsl av).length ≤ 1 := by first | exact Nat.le_of_ble_eq_true rfl | (simp [jsl, jcat_v]; done)) (body : ∀ M : JM, JX M K l cJ2_init RJ2 1 (none) "<init>" [] lv h0 QR QX → J M h0 0 ls []) : Ct K l yJ2_init wJ2_init lv av h0 QR QX := Ct.start F (by decide +kernel) hn hls body
theorem fl_X2_18_X2 : jFL RX2 18 2 0 := ⟨RX2, TX2, 3, "SegmentedCache$Cache$Queue", rfl, by decide, Or.inl q210, Or.inl rfl⟩
theorem pl_X2_18_X2 : jPL RX2 "<init>" 18 2 0 (.object "java/util/LinkedHashMap") := ⟨RX2, TX2, 3, "SegmentedCache$Cache$Queue", rfl, by decide, Or.inr ⟨q210, rfl, rfl, rfl⟩, Or.inl rfl, by decide +kernel⟩
theorem lk_X2_57_J2 : jLkV RX2 57 yJ2_entrySet RJ2 0 := ⟨q508, q509, q510, ⟨by decide, by decide⟩, jNp_of (by decide +kernel)⟩
abbrev wJ2_entrySet : List Cond := ws_ yJ2_entrySet cJ2_entrySet 1 ((Option.some (.object "java/util/Set")))
theorem ce_J2_entrySet : jCe yJ2_entrySet cJ2_entrySet 1 ((Option.some (.object "java/util/Set"))) := ⟨q511, q74, by decide⟩
theorem st_J2_entrySet {K : JK} {l : Launch} {lv : Nat} {av : List Value} {h0 : JIH} {QR : JQR} {QX : JQX} (F : JF K) {ls : List (Option Value)} (hls : jent av 1 = ls) (hn : (jsl av).length ≤ 1 := by first | exact Nat.le_of_ble_eq_true rfl | (simp [jsl, jcat_v]; done)) (body : ∀ M : JM, JX M K l cJ2_entrySet RJ2 1 ((Option.some (.object "java/util/Set"))) "entrySet" [] lv h0 QR QX → J M h0 0 ls []) : Ct K l yJ2_entrySet wJ2_entrySet lv av h0 QR QX := Ct.start F (by decide +kernel) hn hls body
theorem lk_X2_61_J10 : jLkF RX2 61 ⟨"java/util/Set", "iterator", "()Ljava/util/Iterator;"⟩ yJ10_iterator RJ10 0 := ⟨q534, q536, q535, q538, q540, q541, q539, q537, ⟨by decide, by decide⟩, jNp_of (by decide +kernel)⟩
theorem lk_X2_61_J37 : jLkF RX2 61 ⟨"java/util/Set", "iterator", "()Ljava/util/Iterator;"⟩ yJ37_iterator RJ37 0 := ⟨q534, q536, q535, q569, q571, q572, q570, q568, ⟨by decide, by decide⟩, jNp_of (by decide +kernel)⟩
theorem lk_X2_67_J38 : jLkF RX2 67 ⟨"java/util/Iterator", "hasNext", "()Z"⟩ yJ38_hasNext RJ38 0 := ⟨q587, q589, q588, q603, q605, q606, q604, q602, ⟨by decide, by decide⟩, jNp_of (by decide +kernel)⟩
theorem lk_X2_67_J41 : jLkF RX2 67 ⟨"java/util/Iterator", "hasNext", "()Z"⟩ yJ41_hasNext RJ41 0 := ⟨q587, q589, q588, q621, q623, q624, q622, q620, ⟨by decide, by decide⟩, jNp_of (by decide +kernel)⟩
theorem lk_X2_67_J12 : jLkF RX2 67 ⟨"java/util/Iterator", "hasNext", "()Z"⟩ yJ11_hasNext RJ12 0 := ⟨q587, q589, q588, q609, q611, q612, q610, q608, ⟨by decide, by decide⟩, jNp_of (by decide +kernel)⟩
theorem lk_X2_67_J13 : jLkF RX2 67 ⟨"java/util/Iterator", "hasNext", "()Z"⟩ yJ11_hasNext RJ13 0 := ⟨q587, q589, q588, q615, q611, q612, q616, q614, ⟨by decide, by decide⟩, jNp_of (by decide +kernel)⟩
theorem lk_X2_67_J43 : jLkF RX2 67 ⟨"java/util/Iterator", "hasNext", "()Z"⟩ yJ11_hasNext RJ43 0 := ⟨q587, q589, q588, q618, q611, q612, q619, q617, ⟨by decide, by decide⟩, jNp_of (by decide +kernel)⟩
theorem lk_X2_72_J38 : jLkF RX2 72 ⟨"java/util/Iterator", "next", "()Ljava/lang/Object;"⟩ yJ38_next RJ38 0 := ⟨q627, q629, q628, q1127, q1129, q1130, q1128, q602, ⟨by decide, by decide⟩, jNp_of (by decide +kernel)⟩
theorem lk_X2_72_J41 : jLkF RX2 72 ⟨"java/util/Iterator", "next", "()Ljava/lang/Object;"⟩ yJ41_next RJ41 0 := ⟨q627, q629, q628, q1176, q1178, q1179, q1177, q620, ⟨by decide, by decide⟩, jNp_of (by decide +kernel)⟩
theorem lk_X2_72_J12 : jLkF RX2 72 ⟨"java/util/Iterator", "next", "()Ljava/lang/Object;"⟩ yJ12_next RJ12 0 := ⟨q627, q629, q628, q1138, q1140, q1141, q1139, q608, ⟨by decide, by decide⟩, jNp_of (by decide +kernel)⟩
theorem lk_X2_72_J13 : jLkF RX2 72 ⟨"java/util/Iterator", "next", "()Ljava/lang/Object;"⟩ yJ13_next RJ13 0 := ⟨q627, q629, q628, q1153, q1155, q1156, q1154, q614, ⟨by decide, by decide⟩, jNp_of (by decide +kernel)⟩
theorem lk_X2_72_J43 : jLkF RX2 72 ⟨"java/util/Iterator", "next", "()Ljava/lang/Object;"⟩ yJ43_next RJ43 0 := ⟨q627, q629, q628, q1168, q1170, q1171, q1169, q617, ⟨by decide, by decide⟩, jNp_of (by decide +kernel)⟩
theorem cl_X2_76 : jCL RX2 76 "java/util/Map$Entry" := q1186
theorem cl_X2_78 : jCL RX2 78 "SegmentedCache$Going" := q1187
theorem lk_X2_80_J34 : jLkF RX2 80 ⟨"java/util/Map$Entry", "getKey", "()Ljava/lang/Object;"⟩ yJ33_getKey RJ34 0 := ⟨q1190, q1192, q1191, q1201, q1166, q1196, q1202, q1200, ⟨by decide, by decide⟩, jNp_of (by decide +kernel)⟩
theorem cl_X2_83 : jCL RX2 83 "SegmentedCache$Key" := q1203
theorem lk_X2_85_J34 : jLkF RX2 85 ⟨"java/util/Map$Entry", "getValue", "()Ljava/lang/Object;"⟩ yJ33_getValue RJ34 0 := ⟨q1205, q1207, q1206, q1215, q1210, q1211, q1216, q1200, ⟨by decide, by decide⟩, jNp_of (by decide +kernel)⟩
abbrev wJ33_getValue : List Cond := ws_ yJ33_getValue cJ33_getValue 1 ((Option.some (.object "java/lang/Object")))
theorem ce_J33_getValue : jCe yJ33_getValue cJ33_getValue 1 ((Option.some (.object "java/lang/Object"))) := ⟨q1212, q112, by decide⟩
theorem st_J33_getValue {K : JK} {l : Launch} {lv : Nat} {av : List Value} {h0 : JIH} {QR : JQR} {QX : JQX} (F : JF K) {ls : List (Option Value)} (hls : jent av 1 = ls) (hn : (jsl av).length ≤ 1 := by first | exact Nat.le_of_ble_eq_true rfl | (simp [jsl, jcat_v]; done)) (body : ∀ M : JM, JX M K l cJ33_getValue RJ33 1 ((Option.some (.object "java/lang/Object"))) "getValue" [] lv h0 QR QX → J M h0 0 ls []) : Ct K l yJ33_getValue wJ33_getValue lv av h0 QR QX := Ct.start F (by decide +kernel) hn hls body
theorem cl_X2_47 : jCL RX2 47 "SegmentedCache$Thing" := q1217
theorem lk_X2_88 : jLkI RX2 88 yX6_init 2 := ⟨rfl, q1218, q1219, ⟨by decide, by decide⟩, jNp_of (by decide +kernel)⟩
abbrev wX6_init : List Cond := ws_ yX6_init cX6_init 3 (none)
theorem ce_X6_init : jCe yX6_init cX6_init 3 (none) := ⟨q1220, q106, by decide⟩
theorem st_X6_init {K : JK} {l : Launch} {lv : Nat} {av : List Value} {h0 : JIH} {QR : JQR} {QX : JQX} (F : JF K) {ls : List (Option Value)} (hls : jent av 3 = ls) (hn : (jsl av).length ≤ 3 := by first | exact Nat.le_of_ble_eq_true rfl | (simp [jsl, jcat_v]; done)) (body : ∀ M : JM, JX M K l cX6_init RX6 3 (none) "<init>" [] lv h0 QR QX → J M h0 0 ls []) : Ct K l yX6_init wX6_init lv av h0 QR QX := Ct.start F (by decide +kernel) hn hls body
theorem fl_X2_91_X6 : jFL RX2 91 6 1 := ⟨RX6, TX6, 2, "SegmentedCache$Going", rfl, by decide, Or.inr ⟨_, q1226⟩, Or.inl rfl⟩
theorem fl_X2_95_X7 : jFL RX2 95 7 5 := ⟨RX7, TX7, 6, "SegmentedCache$Thing", rfl, by decide, Or.inr ⟨_, q1906⟩, Or.inl rfl⟩
theorem lk_X2_99_J38 : jLkF RX2 99 ⟨"java/util/Iterator", "remove", "()V"⟩ yJ38_remove RJ38 0 := ⟨q1233, q1235, q1234, q1280, q1282, q1283, q1281, q602, ⟨by decide, by decide⟩, jNp_of (by decide +kernel)⟩
abbrev wJ38_remove : List Cond := ws_ yJ38_remove cJ38_remove 1 (none)
theorem ce_J38_remove : jCe yJ38_remove cJ38_remove 1 (none) := ⟨q1284, q119, by decide⟩
theorem st_J38_remove {K : JK} {l : Launch} {lv : Nat} {av : List Value} {h0 : JIH} {QR : JQR} {QX : JQX} (F : JF K) {ls : List (Option Value)} (hls : jent av 1 = ls) (hn : (jsl av).length ≤ 1 := by first | exact Nat.le_of_ble_eq_true rfl | (simp [jsl, jcat_v]; done)) (body : ∀ M : JM, JX M K l cJ38_remove RJ38 1 (none) "remove" [] lv h0 QR QX → J M h0 0 ls []) : Ct K l yJ38_remove wJ38_remove lv av h0 QR QX := Ct.start F (by decide +kernel) hn hls body
theorem lk_X2_99_J41 : jLkF RX2 99 ⟨"java/util/Iterator", "remove", "()V"⟩ yJ41_remove RJ41 0 := ⟨q1233, q1235, q1234, q1652, q1654, q1655, q1653, q620, ⟨by decide, by decide⟩, jNp_of (by decide +kernel)⟩
abbrev wJ41_remove : List Cond := ws_ yJ41_remove cJ41_remove 2 (none)
theorem ce_J41_remove : jCe yJ41_remove cJ41_remove 2 (none) := ⟨q1656, q126, by decide⟩
theorem st_J41_remove {K : JK} {l : Launch} {lv : Nat} {av : List Value} {h0 : JIH} {QR : JQR} {QX : JQX} (F : JF K) {ls : List (Option Value)} (hls : jent av 2 = ls) (hn : (jsl av).length ≤ 2 := by first | exact Nat.le_of_ble_eq_true rfl | (simp [jsl, jcat_v]; done)) (body : ∀ M : JM, JX M K l cJ41_remove RJ41 2 (none) "remove" [] lv h0 QR QX → J M h0 0 ls []) : Ct K l yJ41_remove wJ41_remove lv av h0 QR QX := Ct.start F (by decide +kernel) hn hls body
theorem lk_X2_99_J12 : jLkF RX2 99 ⟨"java/util/Iterator", "remove", "()V"⟩ yJ11_remove RJ12 0 := ⟨q1233, q1235, q1234, q1302, q1304, q1305, q1303, q608, ⟨by decide, by decide⟩, jNp_of (by decide +kernel)⟩
abbrev wJ11_remove : List Cond := ws_ yJ11_remove cJ11_remove 2 (none)
theorem ce_J11_remove : jCe yJ11_remove cJ11_remove 2 (none) := ⟨q1306, q86, by decide⟩
theorem st_J11_remove {K : JK} {l : Launch} {lv : Nat} {av : List Value} {h0 : JIH} {QR : JQR} {QX : JQX} (F : JF K) {ls : List (Option Value)} (hls : jent av 2 = ls) (hn : (jsl av).length ≤ 2 := by first | exact Nat.le_of_ble_eq_true rfl | (simp [jsl, jcat_v]; done)) (body : ∀ M : JM, JX M K l cJ11_remove RJ11 2 (none) "remove" [] lv h0 QR QX → J M h0 0 ls []) : Ct K l yJ11_remove wJ11_remove lv av h0 QR QX := Ct.start F (by decide +kernel) hn hls body
theorem lk_X2_99_J13 : jLkF RX2 99 ⟨"java/util/Iterator", "remove", "()V"⟩ yJ11_remove RJ13 0 := ⟨q1233, q1235, q1234, q1648, q1304, q1305, q1649, q614, ⟨by decide, by decide⟩, jNp_of (by decide +kernel)⟩
theorem lk_X2_99_J43 : jLkF RX2 99 ⟨"java/util/Iterator", "remove", "()V"⟩ yJ11_remove RJ43 0 := ⟨q1233, q1235, q1234, q1650, q1304, q1305, q1651, q617, ⟨by decide, by decide⟩, jNp_of (by decide +kernel)⟩
theorem fl_X2_46_X7 : jFL RX2 46 7 1 := ⟨RX7, TX7, 6, "SegmentedCache$Thing", rfl, by decide, Or.inr ⟨_, q1890⟩, Or.inl rfl⟩
theorem lk_X2_49_X2 : jLkV RX2 49 yX2_weighs RX2 1 := ⟨q1658, q1660, qs8, ⟨by decide, by decide⟩, jNp_of (by decide +kernel)⟩
theorem fl_X2_31_X2 : jFL RX2 31 2 1 := ⟨RX2, TX2, 3, "SegmentedCache$Cache$Queue", rfl, by decide, Or.inl q214, Or.inl rfl⟩
theorem pl_X2_31_X2 (nm : String) : jPL RX2 nm 31 2 1 (.int) := ⟨RX2, TX2, 3, "SegmentedCache$Cache$Queue", rfl, by decide, Or.inl ⟨Or.inl q214, rfl⟩, Or.inl rfl, by decide +kernel⟩
theorem lk_X2_35_X2 : jLkV RX2 35 yX2_isQueue RX2 0 := ⟨q1662, q1664, qs9, ⟨by decide, by decide⟩, jNp_of (by decide +kernel)⟩
abbrev wX2_isQueue : List Cond := ws_ yX2_isQueue cX2_isQueue 1 ((some .boolean))
theorem ce_X2_isQueue : jCe yX2_isQueue cX2_isQueue 1 ((some .boolean)) := ⟨q1665, q71, by decide⟩
theorem st_X2_isQueue {K : JK} {l : Launch} {lv : Nat} {av : List Value} {h0 : JIH} {QR : JQR} {QX : JQX} (F : JF K) {ls : List (Option Value)} (hls : jent av 1 = ls) (hn : (jsl av).length ≤ 1 := by first | exact Nat.le_of_ble_eq_true rfl | (simp [jsl, jcat_v]; done)) (body : ∀ M : JM, JX M K l cX2_isQueue RX2 1 ((some .boolean)) "isQueue" [] lv h0 QR QX → J M h0 0 ls []) : Ct K l yX2_isQueue wX2_isQueue lv av h0 QR QX := Ct.start F (by decide +kernel) hn hls body
theorem fl_X2_39_X1 : jFL RX2 39 1 15 := ⟨RX1, TX1, 16, "SegmentedCache$Cache", rfl, by decide, Or.inr ⟨_, q283⟩, Or.inl rfl⟩
theorem pl_X2_39_X1 (nm : String) : jPL RX2 nm 39 1 15 (.int) := ⟨RX1, TX1, 16, "SegmentedCache$Cache", rfl, by decide, Or.inl ⟨Or.inr ⟨_, q283⟩, rfl⟩, Or.inl rfl, by decide +kernel⟩
theorem fl_X2_22_X1 : jFL RX2 22 1 10 := ⟨RX1, TX1, 16, "SegmentedCache$Cache", rfl, by decide, Or.inr ⟨_, q273⟩, Or.inl rfl⟩
theorem fl_X2_28_X1 : jFL RX2 28 1 11 := ⟨RX1, TX1, 16, "SegmentedCache$Cache", rfl, by decide, Or.inr ⟨_, q276⟩, Or.inl rfl⟩
theorem lk_X2_42_J2 : jLkU RX2 42 ⟨"java/util/LinkedHashMap", "put", "(Ljava/lang/Object;Ljava/lang/Object;)Ljava/lang/Object;"⟩ yJ1_put RJ2 2 := ⟨"java/util/HashMap", q1670, q1671, Or.inl q1672, ⟨by decide, by decide⟩, q1673, q1674, jNp_of (by decide +kernel)⟩
abbrev wJ1_put : List Cond := ws_ yJ1_put cJ1_put 3 ((Option.some (.object "java/lang/Object")))
theorem ce_J1_put : jCe yJ1_put cJ1_put 3 ((Option.some (.object "java/lang/Object"))) := ⟨q1675, q73, by decide⟩
theorem st_J1_put {K : JK} {l : Launch} {lv : Nat} {av : List Value} {h0 : JIH} {QR : JQR} {QX : JQX} (F : JF K) {ls : List (Option Value)} (hls : jent av 3 = ls) (hn : (jsl av).length ≤ 3 := by first | exact Nat.le_of_ble_eq_true rfl | (simp [jsl, jcat_v]; done)) (body : ∀ M : JM, JX M K l cJ1_put RJ1 3 ((Option.some (.object "java/lang/Object"))) "put" [] lv h0 QR QX → J M h0 0 ls []) : Ct K l yJ1_put wJ1_put lv av h0 QR QX := Ct.start F (by decide +kernel) hn hls body
theorem lk_X2_53_J2 : jLkU RX2 53 ⟨"java/util/LinkedHashMap", "remove", "(Ljava/lang/Object;)Ljava/lang/Object;"⟩ yJ1_remove RJ2 1 := ⟨"java/util/HashMap", q2055, q2056, Or.inl q2057, ⟨by decide, by decide⟩, q2058, q2059, jNp_of (by decide +kernel)⟩
abbrev wJ1_remove : List Cond := ws_ yJ1_remove cJ1_remove 3 ((Option.some (.object "java/lang/Object")))
theorem ce_J1_remove : jCe yJ1_remove cJ1_remove 3 ((Option.some (.object "java/lang/Object"))) := ⟨q2060, q73, by decide⟩
theorem st_J1_remove {K : JK} {l : Launch} {lv : Nat} {av : List Value} {h0 : JIH} {QR : JQR} {QX : JQX} (F : JF K) {ls : List (Option Value)} (hls : jent av 3 = ls) (hn : (jsl av).length ≤ 3 := by first | exact Nat.le_of_ble_eq_true rfl | (simp [jsl, jcat_v]; done)) (body : ∀ M : JM, JX M K l cJ1_remove RJ1 3 ((Option.some (.object "java/lang/Object"))) "remove" [] lv h0 QR QX → J M h0 0 ls []) : Ct K l yJ1_remove wJ1_remove lv av h0 QR QX := Ct.start F (by decide +kernel) hn hls body
theorem lk_X2_107_J2 : jLkV RX2 107 yJ2_keySet RJ2 0 := ⟨q2102, q2103, q2104, ⟨by decide, by decide⟩, jNp_of (by decide +kernel)⟩
theorem lk_X2_110_X8 : jLkV RX2 110 yX8_equals RX8 1 := ⟨q2123, q1323, q3028, ⟨by decide, by decide⟩, jNp_of (by decide +kernel)⟩
theorem lk_X2_114_X8 : jLkV RX2 114 yX8_told RX8 0 := ⟨q2132, q2133, q2134, ⟨by decide, by decide⟩, jNp_of (by decide +kernel)⟩
theorem lk_X2_101_J2 : jLkV RX2 101 yJ2_clear RJ2 0 := ⟨q2620, q2621, q2622, ⟨by decide, by decide⟩, jNp_of (by decide +kernel)⟩
abbrev wJ2_clear : List Cond := ws_ yJ2_clear cJ2_clear 1 (none)
theorem ce_J2_clear : jCe yJ2_clear cJ2_clear 1 (none) := ⟨q2623, q74, by decide⟩
theorem st_J2_clear {K : JK} {l : Launch} {lv : Nat} {av : List Value} {h0 : JIH} {QR : JQR} {QX : JQX} (F : JF K) {ls : List (Option Value)} (hls : jent av 1 = ls) (hn : (jsl av).length ≤ 1 := by first | exact Nat.le_of_ble_eq_true rfl | (simp [jsl, jcat_v]; done)) (body : ∀ M : JM, JX M K l cJ2_clear RJ2 1 (none) "clear" [] lv h0 QR QX → J M h0 0 ls []) : Ct K l yJ2_clear wJ2_clear lv av h0 QR QX := Ct.start F (by decide +kernel) hn hls body
theorem lk_X2_104 : jLkI RX2 104 yX7_init_3 1 := ⟨rfl, q2627, q2628, ⟨by decide, by decide⟩, jNp_of (by decide +kernel)⟩
abbrev wX7_init_3 : List Cond := ws_ yX7_init_3 cX7_init_3 2 (none)
theorem ce_X7_init_3 : jCe yX7_init_3 cX7_init_3 2 (none) := ⟨q2629, q115, by decide⟩
theorem st_X7_init_3 {K : JK} {l : Launch} {lv : Nat} {av : List Value} {h0 : JIH} {QR : JQR} {QX : JQX} (F : JF K) {ls : List (Option Value)} (hls : jent av 2 = ls) (hn : (jsl av).length ≤ 2 := by first | exact Nat.le_of_ble_eq_true rfl | (simp [jsl, jcat_v]; done)) (body : ∀ M : JM, JX M K l cX7_init_3 RX7 2 (none) "<init>" [] lv h0 QR QX → J M h0 0 ls []) : Ct K l yX7_init_3 wX7_init_3 lv av h0 QR QX := Ct.start F (by decide +kernel) hn hls body
theorem lk_X3_3 : Cond.methodLink RX3 3 objectInit ∈ lw_all := q322
theorem fl_X3_11_X3 : jFL RX3 11 3 0 := ⟨RX3, TX3, 19, "SegmentedCache$Sketch", rfl, by decide, Or.inl q323, Or.inl rfl⟩
theorem pl_X3_11_X3 : jPL RX3 "<init>" 11 3 0 (.array (.int)) := ⟨RX3, TX3, 19, "SegmentedCache$Sketch", rfl, by decide, Or.inr ⟨q323, rfl, rfl, rfl⟩, Or.inl rfl, by decide +kernel⟩
theorem fl_X3_15_X3 : jFL RX3 15 3 1 := ⟨RX3, TX3, 19, "SegmentedCache$Sketch", rfl, by decide, Or.inl q324, Or.inl rfl⟩
theorem pl_X3_15_X3 : jPL RX3 "<init>" 15 3 1 (.array (.int)) := ⟨RX3, TX3, 19, "SegmentedCache$Sketch", rfl, by decide, Or.inr ⟨q324, rfl, rfl, rfl⟩, Or.inl rfl, by decide +kernel⟩
theorem fl_X3_18_X3 : jFL RX3 18 3 2 := ⟨RX3, TX3, 19, "SegmentedCache$Sketch", rfl, by decide, Or.inl q325, Or.inl rfl⟩
theorem pl_X3_18_X3 : jPL RX3 "<init>" 18 3 2 (.array (.int)) := ⟨RX3, TX3, 19, "SegmentedCache$Sketch", rfl, by decide, Or.inr ⟨q325, rfl, rfl, rfl⟩, Or.inl rfl, by decide +kernel⟩
theorem fl_X3_21_X3 : jFL RX3 21 3 3 := ⟨RX3, TX3, 19, "SegmentedCache$Sketch", rfl, by decide, Or.inl q326, Or.inl rfl⟩
theorem pl_X3_21_X3 : jPL RX3 "<init>" 21 3 3 (.array (.int)) := ⟨RX3, TX3, 19, "SegmentedCache$Sketch", rfl, by decide, Or.inr ⟨q326, rfl, rfl, rfl⟩, Or.inl rfl, by decide +kernel⟩
theorem fl_X3_24_X3 : jFL RX3 24 3 4 := ⟨RX3, TX3, 19, "SegmentedCache$Sketch", rfl, by decide, Or.inl q327, Or.inl rfl⟩
theorem pl_X3_24_X3 : jPL RX3 "<init>" 24 3 4 (.array (.int)) := ⟨RX3, TX3, 19, "SegmentedCache$Sketch", rfl, by decide, Or.inr ⟨q327, rfl, rfl, rfl⟩, Or.inl rfl, by decide +kernel⟩
theorem fl_X3_27_X3 : jFL RX3 27 3 5 := ⟨RX3, TX3, 19, "SegmentedCache$Sketch", rfl, by decide, Or.inl q328, Or.inl rfl⟩
theorem pl_X3_27_X3 : jPL RX3 "<init>" 27 3 5 (.array (.int)) := ⟨RX3, TX3, 19, "SegmentedCache$Sketch", rfl, by decide, Or.inr ⟨q328, rfl, rfl, rfl⟩, Or.inl rfl, by decide +kernel⟩
theorem fl_X3_30_X3 : jFL RX3 30 3 6 := ⟨RX3, TX3, 19, "SegmentedCache$Sketch", rfl, by decide, Or.inl q329, Or.inl rfl⟩
theorem pl_X3_30_X3 : jPL RX3 "<init>" 30 3 6 (.array (.boolean)) := ⟨RX3, TX3, 19, "SegmentedCache$Sketch", rfl, by decide, Or.inr ⟨q329, rfl, rfl, rfl⟩, Or.inl rfl, by decide +kernel⟩
theorem fl_X3_34_X3 : jFL RX3 34 3 7 := ⟨RX3, TX3, 19, "SegmentedCache$Sketch", rfl, by decide, Or.inl q330, Or.inl rfl⟩
theorem pl_X3_34_X3 : jPL RX3 "<init>" 34 3 7 (.array (.int)) := ⟨RX3, TX3, 19, "SegmentedCache$Sketch", rfl, by decide, Or.inr ⟨q330, rfl, rfl, rfl⟩, Or.inl rfl, by decide +kernel⟩
theorem fl_X3_37_X3 : jFL RX3 37 3 8 := ⟨RX3, TX3, 19, "SegmentedCache$Sketch", rfl, by decide, Or.inl q331, Or.inl rfl⟩
theorem pl_X3_37_X3 : jPL RX3 "<init>" 37 3 8 (.array (.int)) := ⟨RX3, TX3, 19, "SegmentedCache$Sketch", rfl, by decide, Or.inr ⟨q331, rfl, rfl, rfl⟩, Or.inl rfl, by decide +kernel⟩
theorem fl_X3_40_X3 : jFL RX3 40 3 9 := ⟨RX3, TX3, 19, "SegmentedCache$Sketch", rfl, by decide, Or.inl q332, Or.inl rfl⟩
theorem pl_X3_40_X3 : jPL RX3 "<init>" 40 3 9 (.array (.int)) := ⟨RX3, TX3, 19, "SegmentedCache$Sketch", rfl, by decide, Or.inr ⟨q332, rfl, rfl, rfl⟩, Or.inl rfl, by decide +kernel⟩
theorem lk_X3_43_X3 : jLkV RX3 43 yX3_empties RX3 0 := ⟨q2180, q2182, qs21, ⟨by decide, by decide⟩, jNp_of (by decide +kernel)⟩
abbrev wX3_empties : List Cond := ws_ yX3_empties cX3_empties 2 (none)
theorem ce_X3_empties : jCe yX3_empties cX3_empties 2 (none) := ⟨q2183, q77, by decide⟩
theorem st_X3_empties {K : JK} {l : Launch} {lv : Nat} {av : List Value} {h0 : JIH} {QR : JQR} {QX : JQX} (F : JF K) {ls : List (Option Value)} (hls : jent av 2 = ls) (hn : (jsl av).length ≤ 2 := by first | exact Nat.le_of_ble_eq_true rfl | (simp [jsl, jcat_v]; done)) (body : ∀ M : JM, JX M K l cX3_empties RX3 2 (none) "empties" [] lv h0 QR QX → J M h0 0 ls []) : Ct K l yX3_empties wX3_empties lv av h0 QR QX := Ct.start F (by decide +kernel) hn hls body
theorem lk_X3_46_X1 : jLkV RX3 46 yX1_queue RX1 1 := ⟨q2184, q1988, q1989, ⟨by decide, by decide⟩, jNp_of (by decide +kernel)⟩
theorem fl_X3_52_X2 : jFL RX3 52 2 0 := ⟨RX2, TX2, 3, "SegmentedCache$Cache$Queue", rfl, by decide, Or.inr ⟨_, q211⟩, Or.inl rfl⟩
theorem lk_X3_58_J2 : jLkV RX3 58 yJ2_entrySet RJ2 0 := ⟨q2185, q509, q510, ⟨by decide, by decide⟩, jNp_of (by decide +kernel)⟩
theorem lk_X3_64_J10 : jLkF RX3 64 ⟨"java/util/Set", "iterator", "()Ljava/util/Iterator;"⟩ yJ10_iterator RJ10 0 := ⟨q2187, q536, q535, q538, q540, q541, q539, q537, ⟨by decide, by decide⟩, jNp_of (by decide +kernel)⟩
theorem lk_X3_64_J37 : jLkF RX3 64 ⟨"java/util/Set", "iterator", "()Ljava/util/Iterator;"⟩ yJ37_iterator RJ37 0 := ⟨q2187, q536, q535, q569, q571, q572, q570, q568, ⟨by decide, by decide⟩, jNp_of (by decide +kernel)⟩
theorem lk_X3_70_J38 : jLkF RX3 70 ⟨"java/util/Iterator", "hasNext", "()Z"⟩ yJ38_hasNext RJ38 0 := ⟨q2189, q589, q588, q603, q605, q606, q604, q602, ⟨by decide, by decide⟩, jNp_of (by decide +kernel)⟩
theorem lk_X3_70_J41 : jLkF RX3 70 ⟨"java/util/Iterator", "hasNext", "()Z"⟩ yJ41_hasNext RJ41 0 := ⟨q2189, q589, q588, q621, q623, q624, q622, q620, ⟨by decide, by decide⟩, jNp_of (by decide +kernel)⟩
theorem lk_X3_70_J12 : jLkF RX3 70 ⟨"java/util/Iterator", "hasNext", "()Z"⟩ yJ11_hasNext RJ12 0 := ⟨q2189, q589, q588, q609, q611, q612, q610, q608, ⟨by decide, by decide⟩, jNp_of (by decide +kernel)⟩
theorem lk_X3_70_J13 : jLkF RX3 70 ⟨"java/util/Iterator", "hasNext", "()Z"⟩ yJ11_hasNext RJ13 0 := ⟨q2189, q589, q588, q615, q611, q612, q616, q614, ⟨by decide, by decide⟩, jNp_of (by decide +kernel)⟩
theorem lk_X3_70_J43 : jLkF RX3 70 ⟨"java/util/Iterator", "hasNext", "()Z"⟩ yJ11_hasNext RJ43 0 := ⟨q2189, q589, q588, q618, q611, q612, q619, q617, ⟨by decide, by decide⟩, jNp_of (by decide +kernel)⟩
theorem lk_X3_76_J38 : jLkF RX3 76 ⟨"java/util/Iterator", "next", "()Ljava/lang/Object;"⟩ yJ38_next RJ38 0 := ⟨q2191, q629, q628, q1127, q1129, q1130, q1128, q602, ⟨by decide, by decide⟩, jNp_of (by decide +kernel)⟩
theorem lk_X3_76_J41 : jLkF RX3 76 ⟨"java/util/Iterator", "next", "()Ljava/lang/Object;"⟩ yJ41_next RJ41 0 := ⟨q2191, q629, q628, q1176, q1178, q1179, q1177, q620, ⟨by decide, by decide⟩, jNp_of (by decide +kernel)⟩
theorem lk_X3_76_J12 : jLkF RX3 76 ⟨"java/util/Iterator", "next", "()Ljava/lang/Object;"⟩ yJ12_next RJ12 0 := ⟨q2191, q629, q628, q1138, q1140, q1141, q1139, q608, ⟨by decide, by decide⟩, jNp_of (by decide +kernel)⟩
theorem lk_X3_76_J13 : jLkF RX3 76 ⟨"java/util/Iterator", "next", "()Ljava/lang/Object;"⟩ yJ13_next RJ13 0 := ⟨q2191, q629, q628, q1153, q1155, q1156, q1154, q614, ⟨by decide, by decide⟩, jNp_of (by decide +kernel)⟩
theorem lk_X3_76_J43 : jLkF RX3 76 ⟨"java/util/Iterator", "next", "()Ljava/lang/Object;"⟩ yJ43_next RJ43 0 := ⟨q2191, q629, q628, q1168, q1170, q1171, q1169, q617, ⟨by decide, by decide⟩, jNp_of (by decide +kernel)⟩
theorem cl_X3_79 : jCL RX3 79 "java/util/Map$Entry" := q2192
theorem lk_X3_81_J34 : jLkF RX3 81 ⟨"java/util/Map$Entry", "getKey", "()Ljava/lang/Object;"⟩ yJ33_getKey RJ34 0 := ⟨q2194, q1192, q1191, q1201, q1166, q1196, q1202, q1200, ⟨by decide, by decide⟩, jNp_of (by decide +kernel)⟩
theorem cl_X3_84 : jCL RX3 84 "SegmentedCache$Key" := q2195
theorem lk_X3_86_X8 : jLkV RX3 86 yX8_told RX8 0 := ⟨q2196, q2133, q2134, ⟨by decide, by decide⟩, jNp_of (by decide +kernel)⟩
theorem lk_X3_90_J34 : jLkF RX3 90 ⟨"java/util/Map$Entry", "getValue", "()Ljava/lang/Object;"⟩ yJ33_getValue RJ34 0 := ⟨q2198, q1207, q1206, q1215, q1210, q1211, q1216, q1200, ⟨by decide, by decide⟩, jNp_of (by decide +kernel)⟩
theorem cl_X3_93 : jCL RX3 93 "SegmentedCache$Thing" := q2199
theorem fl_X3_95_X7 : jFL RX3 95 7 1 := ⟨RX7, TX7, 6, "SegmentedCache$Thing", rfl, by decide, Or.inr ⟨_, q1889⟩, Or.inl rfl⟩
theorem fl_X3_99_X7 : jFL RX3 99 7 4 := ⟨RX7, TX7, 6, "SegmentedCache$Thing", rfl, by decide, Or.inr ⟨_, q1901⟩, Or.inl rfl⟩
theorem lk_X3_101_X3 : jLkV RX3 101 yX3_comes RX3 4 := ⟨q2200, q2202, qs22, ⟨by decide, by decide⟩, jNp_of (by decide +kernel)⟩
abbrev wX3_comes : List Cond := ws_ yX3_comes cX3_comes 5 (none)
theorem ce_X3_comes : jCe yX3_comes cX3_comes 5 (none) := ⟨q2203, q77, by decide⟩
theorem st_X3_comes {K : JK} {l : Launch} {lv : Nat} {av : List Value} {h0 : JIH} {QR : JQR} {QX : JQX} (F : JF K) {ls : List (Option Value)} (hls : jent av 5 = ls) (hn : (jsl av).length ≤ 5 := by first | exact Nat.le_of_ble_eq_true rfl | (simp [jsl, jcat_v]; done)) (body : ∀ M : JM, JX M K l cX3_comes RX3 5 (none) "comes" [] lv h0 QR QX → J M h0 0 ls []) : Ct K l yX3_comes wX3_comes lv av h0 QR QX := Ct.start F (by decide +kernel) hn hls body
theorem fl_X3_105_X7 : jFL RX3 105 7 3 := ⟨RX7, TX7, 6, "SegmentedCache$Thing", rfl, by decide, Or.inr ⟨_, q1897⟩, Or.inl rfl⟩
theorem fl_X3_108_X7 : jFL RX3 108 7 5 := ⟨RX7, TX7, 6, "SegmentedCache$Thing", rfl, by decide, Or.inr ⟨_, q1905⟩, Or.inl rfl⟩
theorem fl_X3_112_X1 : jFL RX3 112 1 0 := ⟨RX1, TX1, 16, "SegmentedCache$Cache", rfl, by decide, Or.inr ⟨_, q249⟩, Or.inl rfl⟩
theorem fl_X3_115_X3 : jFL RX3 115 3 10 := ⟨RX3, TX3, 19, "SegmentedCache$Sketch", rfl, by decide, Or.inl q333, Or.inl rfl⟩
theorem pl_X3_115_X3 (nm : String) : jPL RX3 nm 115 3 10 (.int) := ⟨RX3, TX3, 19, "SegmentedCache$Sketch", rfl, by decide, Or.inl ⟨Or.inl q333, rfl⟩, Or.inl rfl, by decide +kernel⟩
theorem fl_X3_116_X1 : jFL RX3 116 1 1 := ⟨RX1, TX1, 16, "SegmentedCache$Cache", rfl, by decide, Or.inr ⟨_, q252⟩, Or.inl rfl⟩
theorem fl_X3_119_X3 : jFL RX3 119 3 11 := ⟨RX3, TX3, 19, "SegmentedCache$Sketch", rfl, by decide, Or.inl q335, Or.inl rfl⟩
theorem pl_X3_119_X3 (nm : String) : jPL RX3 nm 119 3 11 (.int) := ⟨RX3, TX3, 19, "SegmentedCache$Sketch", rfl, by decide, Or.inl ⟨Or.inl q335, rfl⟩, Or.inl rfl, by decide +kernel⟩
theorem fl_X3_120_X1 : jFL RX3 120 1 2 := ⟨RX1, TX1, 16, "SegmentedCache$Cache", rfl, by decide, Or.inr ⟨_, q255⟩, Or.inl rfl⟩
theorem fl_X3_123_X3 : jFL RX3 123 3 12 := ⟨RX3, TX3, 19, "SegmentedCache$Sketch", rfl, by decide, Or.inl q337, Or.inl rfl⟩
theorem pl_X3_123_X3 (nm : String) : jPL RX3 nm 123 3 12 (.int) := ⟨RX3, TX3, 19, "SegmentedCache$Sketch", rfl, by decide, Or.inl ⟨Or.inl q337, rfl⟩, Or.inl rfl, by decide +kernel⟩
theorem fl_X3_124_X1 : jFL RX3 124 1 3 := ⟨RX1, TX1, 16, "SegmentedCache$Cache", rfl, by decide, Or.inr ⟨_, q258⟩, Or.inl rfl⟩
theorem fl_X3_127_X3 : jFL RX3 127 3 13 := ⟨RX3, TX3, 19, "SegmentedCache$Sketch", rfl, by decide, Or.inl q338, Or.inl rfl⟩
theorem pl_X3_127_X3 (nm : String) : jPL RX3 nm 127 3 13 (.int) := ⟨RX3, TX3, 19, "SegmentedCache$Sketch", rfl, by decide, Or.inl ⟨Or.inl q338, rfl⟩, Or.inl rfl, by decide +kernel⟩
theorem fl_X3_128_X3 : jFL RX3 128 3 14 := ⟨RX3, TX3, 19, "SegmentedCache$Sketch", rfl, by decide, Or.inl q339, Or.inl rfl⟩
theorem pl_X3_128_X3 (nm : String) : jPL RX3 nm 128 3 14 (.int) := ⟨RX3, TX3, 19, "SegmentedCache$Sketch", rfl, by decide, Or.inl ⟨Or.inl q339, rfl⟩, Or.inl rfl, by decide +kernel⟩
theorem fl_X3_131_X3 : jFL RX3 131 3 15 := ⟨RX3, TX3, 19, "SegmentedCache$Sketch", rfl, by decide, Or.inl q341, Or.inl rfl⟩
theorem pl_X3_131_X3 (nm : String) : jPL RX3 nm 131 3 15 (.int) := ⟨RX3, TX3, 19, "SegmentedCache$Sketch", rfl, by decide, Or.inl ⟨Or.inl q341, rfl⟩, Or.inl rfl, by decide +kernel⟩
theorem fl_X3_134_X3 : jFL RX3 134 3 16 := ⟨RX3, TX3, 19, "SegmentedCache$Sketch", rfl, by decide, Or.inl q343, Or.inl rfl⟩
theorem pl_X3_134_X3 (nm : String) : jPL RX3 nm 134 3 16 (.int) := ⟨RX3, TX3, 19, "SegmentedCache$Sketch", rfl, by decide, Or.inl ⟨Or.inl q343, rfl⟩, Or.inl rfl, by decide +kernel⟩
theorem fl_X3_137_X3 : jFL RX3 137 3 17 := ⟨RX3, TX3, 19, "SegmentedCache$Sketch", rfl, by decide, Or.inl q345, Or.inl rfl⟩
theorem pl_X3_137_X3 (nm : String) : jPL RX3 nm 137 3 17 (.int) := ⟨RX3, TX3, 19, "SegmentedCache$Sketch", rfl, by decide, Or.inl ⟨Or.inl q345, rfl⟩, Or.inl rfl, by decide +kernel⟩
theorem lk_X3_146_X3 : jLkV RX3 146 yX3_adds RX3 2 := ⟨q2204, q2206, qs23, ⟨by decide, by decide⟩, jNp_of (by decide +kernel)⟩
abbrev wX3_adds : List Cond := ws_ yX3_adds cX3_adds 3 (none)
theorem ce_X3_adds : jCe yX3_adds cX3_adds 3 (none) := ⟨q2207, q77, by decide⟩
theorem st_X3_adds {K : JK} {l : Launch} {lv : Nat} {av : List Value} {h0 : JIH} {QR : JQR} {QX : JQX} (F : JF K) {ls : List (Option Value)} (hls : jent av 3 = ls) (hn : (jsl av).length ≤ 3 := by first | exact Nat.le_of_ble_eq_true rfl | (simp [jsl, jcat_v]; done)) (body : ∀ M : JM, JX M K l cX3_adds RX3 3 (none) "adds" [] lv h0 QR QX → J M h0 0 ls []) : Ct K l yX3_adds wX3_adds lv av h0 QR QX := Ct.start F (by decide +kernel) hn hls body
theorem lk_X3_164_X3 : jLkV RX3 164 yX3_falls RX3 0 := ⟨q2212, q2214, qs24, ⟨by decide, by decide⟩, jNp_of (by decide +kernel)⟩
abbrev wX3_falls : List Cond := ws_ yX3_falls cX3_falls 2 ((some .boolean))
theorem ce_X3_falls : jCe yX3_falls cX3_falls 2 ((some .boolean)) := ⟨q2215, q77, by decide⟩
theorem st_X3_falls {K : JK} {l : Launch} {lv : Nat} {av : List Value} {h0 : JIH} {QR : JQR} {QX : JQX} (F : JF K) {ls : List (Option Value)} (hls : jent av 2 = ls) (hn : (jsl av).length ≤ 2 := by first | exact Nat.le_of_ble_eq_true rfl | (simp [jsl, jcat_v]; done)) (body : ∀ M : JM, JX M K l cX3_falls RX3 2 ((some .boolean)) "falls" [] lv h0 QR QX → J M h0 0 ls []) : Ct K l yX3_falls wX3_falls lv av h0 QR QX := Ct.start F (by decide +kernel) hn hls body
theorem lk_X3_167_X3 : jLkV RX3 167 yX3_both RX3 0 := ⟨q2224, q2226, qs27, ⟨by decide, by decide⟩, jNp_of (by decide +kernel)⟩
theorem lk_X3_170_X3 : jLkV RX3 170 yX3_goesFromProbation RX3 0 := ⟨q2228, q2230, qs28, ⟨by decide, by decide⟩, jNp_of (by decide +kernel)⟩
abbrev wX3_goesFromProbation : List Cond := ws_ yX3_goesFromProbation cX3_goesFromProbation 2 ((some .boolean))
theorem ce_X3_goesFromProbation : jCe yX3_goesFromProbation cX3_goesFromProbation 2 ((some .boolean)) := ⟨q2231, q77, by decide⟩
theorem st_X3_goesFromProbation {K : JK} {l : Launch} {lv : Nat} {av : List Value} {h0 : JIH} {QR : JQR} {QX : JQX} (F : JF K) {ls : List (Option Value)} (hls : jent av 2 = ls) (hn : (jsl av).length ≤ 2 := by first | exact Nat.le_of_ble_eq_true rfl | (simp [jsl, jcat_v]; done)) (body : ∀ M : JM, JX M K l cX3_goesFromProbation RX3 2 ((some .boolean)) "goesFromProbation" [] lv h0 QR QX → J M h0 0 ls []) : Ct K l yX3_goesFromProbation wX3_goesFromProbation lv av h0 QR QX := Ct.start F (by decide +kernel) hn hls body
theorem lk_X3_173_X3 : jLkV RX3 173 yX3_goesFromProtected RX3 0 := ⟨q2236, q2238, qs30, ⟨by decide, by decide⟩, jNp_of (by decide +kernel)⟩
abbrev wX3_goesFromProtected : List Cond := ws_ yX3_goesFromProtected cX3_goesFromProtected 2 ((some .boolean))
theorem ce_X3_goesFromProtected : jCe yX3_goesFromProtected cX3_goesFromProtected 2 ((some .boolean)) := ⟨q2239, q77, by decide⟩
theorem st_X3_goesFromProtected {K : JK} {l : Launch} {lv : Nat} {av : List Value} {h0 : JIH} {QR : JQR} {QX : JQX} (F : JF K) {ls : List (Option Value)} (hls : jent av 2 = ls) (hn : (jsl av).length ≤ 2 := by first | exact Nat.le_of_ble_eq_true rfl | (simp [jsl, jcat_v]; done)) (body : ∀ M : JM, JX M K l cX3_goesFromProtected RX3 2 ((some .boolean)) "goesFromProtected" [] lv h0 QR QX → J M h0 0 ls []) : Ct K l yX3_goesFromProtected wX3_goesFromProtected lv av h0 QR QX := Ct.start F (by decide +kernel) hn hls body
theorem fl_X3_154_X3 : jFL RX3 154 3 18 := ⟨RX3, TX3, 19, "SegmentedCache$Sketch", rfl, by decide, Or.inl q347, Or.inl rfl⟩
theorem lk_X3_157_X3 : jLkV RX3 157 yX3_oldest RX3 1 := ⟨q2216, q2218, qs25, ⟨by decide, by decide⟩, jNp_of (by decide +kernel)⟩
abbrev wX3_oldest : List Cond := ws_ yX3_oldest cX3_oldest 3 ((some .int))
theorem ce_X3_oldest : jCe yX3_oldest cX3_oldest 3 ((some .int)) := ⟨q2219, q77, by decide⟩
theorem st_X3_oldest {K : JK} {l : Launch} {lv : Nat} {av : List Value} {h0 : JIH} {QR : JQR} {QX : JQX} (F : JF K) {ls : List (Option Value)} (hls : jent av 3 = ls) (hn : (jsl av).length ≤ 3 := by first | exact Nat.le_of_ble_eq_true rfl | (simp [jsl, jcat_v]; done)) (body : ∀ M : JM, JX M K l cX3_oldest RX3 3 ((some .int)) "oldest" [] lv h0 QR QX → J M h0 0 ls []) : Ct K l yX3_oldest wX3_oldest lv av h0 QR QX := Ct.start F (by decide +kernel) hn hls body
theorem lk_X3_150_X3 : jLkV RX3 150 yX3_loses RX3 1 := ⟨q2220, q2222, qs26, ⟨by decide, by decide⟩, jNp_of (by decide +kernel)⟩
abbrev wX3_loses : List Cond := ws_ yX3_loses cX3_loses 3 ((some .int))
theorem ce_X3_loses : jCe yX3_loses cX3_loses 3 ((some .int)) := ⟨q2223, q77, by decide⟩
theorem st_X3_loses {K : JK} {l : Launch} {lv : Nat} {av : List Value} {h0 : JIH} {QR : JQR} {QX : JQX} (F : JF K) {ls : List (Option Value)} (hls : jent av 3 = ls) (hn : (jsl av).length ≤ 3 := by first | exact Nat.le_of_ble_eq_true rfl | (simp [jsl, jcat_v]; done)) (body : ∀ M : JM, JX M K l cX3_loses RX3 3 ((some .int)) "loses" [] lv h0 QR QX → J M h0 0 ls []) : Ct K l yX3_loses wX3_loses lv av h0 QR QX := Ct.start F (by decide +kernel) hn hls body
theorem lk_X3_160_X3 : jLkV RX3 160 yX3_goes RX3 2 := ⟨q2232, q2234, qs29, ⟨by decide, by decide⟩, jNp_of (by decide +kernel)⟩
abbrev wX3_goes : List Cond := ws_ yX3_goes cX3_goes 3 ((some .boolean))
theorem ce_X3_goes : jCe yX3_goes cX3_goes 3 ((some .boolean)) := ⟨q2235, q77, by decide⟩
theorem st_X3_goes {K : JK} {l : Launch} {lv : Nat} {av : List Value} {h0 : JIH} {QR : JQR} {QX : JQX} (F : JF K) {ls : List (Option Value)} (hls : jent av 3 = ls) (hn : (jsl av).length ≤ 3 := by first | exact Nat.le_of_ble_eq_true rfl | (simp [jsl, jcat_v]; done)) (body : ∀ M : JM, JX M K l cX3_goes RX3 3 ((some .boolean)) "goes" [] lv h0 QR QX → J M h0 0 ls []) : Ct K l yX3_goes wX3_goes lv av h0 QR QX := Ct.start F (by decide +kernel) hn hls body
theorem pl_X3_154_X3 (nm : String) : jPL RX3 nm 154 3 18 (.int) := ⟨RX3, TX3, 19, "SegmentedCache$Sketch", rfl, by decide, Or.inl ⟨Or.inl q347, rfl⟩, Or.inl rfl, by decide +kernel⟩
theorem lk_X3_198_J7 : jLkU RX3 198 ⟨"java/util/LinkedList", "iterator", "()Ljava/util/Iterator;"⟩ yJ6_iterator RJ7 0 := ⟨"java/util/AbstractSequentialList", q2449, q2384, Or.inl q2385, ⟨by decide, by decide⟩, q2386, q2387, jNp_of (by decide +kernel)⟩
theorem cl_X3_201 : jCL RX3 201 "SegmentedCache$Clause" := q2450
theorem fl_X3_203_X10 : jFL RX3 203 10 2 := ⟨RX10, TX10, 3, "SegmentedCache$Clause", rfl, by decide, Or.inr ⟨_, q2330⟩, Or.inl rfl⟩
theorem fl_X3_207_X10 : jFL RX3 207 10 0 := ⟨RX10, TX10, 3, "SegmentedCache$Clause", rfl, by decide, Or.inr ⟨_, q2324⟩, Or.inl rfl⟩
theorem lk_X3_210_X3 : jLkV RX3 210 yX3_gets RX3 1 := ⟨q2451, q2453, qs38, ⟨by decide, by decide⟩, jNp_of (by decide +kernel)⟩
abbrev wX3_gets : List Cond := ws_ yX3_gets cX3_gets 2 (none)
theorem ce_X3_gets : jCe yX3_gets cX3_gets 2 (none) := ⟨q2454, q77, by decide⟩
theorem st_X3_gets {K : JK} {l : Launch} {lv : Nat} {av : List Value} {h0 : JIH} {QR : JQR} {QX : JQX} (F : JF K) {ls : List (Option Value)} (hls : jent av 2 = ls) (hn : (jsl av).length ≤ 2 := by first | exact Nat.le_of_ble_eq_true rfl | (simp [jsl, jcat_v]; done)) (body : ∀ M : JM, JX M K l cX3_gets RX3 2 (none) "gets" [] lv h0 QR QX → J M h0 0 ls []) : Ct K l yX3_gets wX3_gets lv av h0 QR QX := Ct.start F (by decide +kernel) hn hls body
theorem fl_X3_213_X10 : jFL RX3 213 10 1 := ⟨RX10, TX10, 3, "SegmentedCache$Clause", rfl, by decide, Or.inr ⟨_, q2327⟩, Or.inl rfl⟩
theorem lk_X3_214_X3 : jLkV RX3 214 yX3_puts RX3 2 := ⟨q2472, q2474, qs42, ⟨by decide, by decide⟩, jNp_of (by decide +kernel)⟩
abbrev wX3_puts : List Cond := ws_ yX3_puts cX3_puts 4 (none)
theorem ce_X3_puts : jCe yX3_puts cX3_puts 4 (none) := ⟨q2475, q77, by decide⟩
theorem st_X3_puts {K : JK} {l : Launch} {lv : Nat} {av : List Value} {h0 : JIH} {QR : JQR} {QX : JQX} (F : JF K) {ls : List (Option Value)} (hls : jent av 4 = ls) (hn : (jsl av).length ≤ 4 := by first | exact Nat.le_of_ble_eq_true rfl | (simp [jsl, jcat_v]; done)) (body : ∀ M : JM, JX M K l cX3_puts RX3 4 (none) "puts" [] lv h0 QR QX → J M h0 0 ls []) : Ct K l yX3_puts wX3_puts lv av h0 QR QX := Ct.start F (by decide +kernel) hn hls body
theorem lk_X3_186_X3 : jLkV RX3 186 yX3_isThing RX3 1 := ⟨q2455, q2457, qs39, ⟨by decide, by decide⟩, jNp_of (by decide +kernel)⟩
abbrev wX3_isThing : List Cond := ws_ yX3_isThing cX3_isThing 2 ((some .boolean))
theorem ce_X3_isThing : jCe yX3_isThing cX3_isThing 2 ((some .boolean)) := ⟨q2458, q77, by decide⟩
theorem st_X3_isThing {K : JK} {l : Launch} {lv : Nat} {av : List Value} {h0 : JIH} {QR : JQR} {QX : JQX} (F : JF K) {ls : List (Option Value)} (hls : jent av 2 = ls) (hn : (jsl av).length ≤ 2 := by first | exact Nat.le_of_ble_eq_true rfl | (simp [jsl, jcat_v]; done)) (body : ∀ M : JM, JX M K l cX3_isThing RX3 2 ((some .boolean)) "isThing" [] lv h0 QR QX → J M h0 0 ls []) : Ct K l yX3_isThing wX3_isThing lv av h0 QR QX := Ct.start F (by decide +kernel) hn hls body
theorem lk_X3_190_X3 : jLkV RX3 190 yX3_hits RX3 1 := ⟨q2459, q2461, qs40, ⟨by decide, by decide⟩, jNp_of (by decide +kernel)⟩
abbrev wX3_hits : List Cond := ws_ yX3_hits cX3_hits 3 (none)
theorem ce_X3_hits : jCe yX3_hits cX3_hits 3 (none) := ⟨q2462, q77, by decide⟩
theorem st_X3_hits {K : JK} {l : Launch} {lv : Nat} {av : List Value} {h0 : JIH} {QR : JQR} {QX : JQX} (F : JF K) {ls : List (Option Value)} (hls : jent av 3 = ls) (hn : (jsl av).length ≤ 3 := by first | exact Nat.le_of_ble_eq_true rfl | (simp [jsl, jcat_v]; done)) (body : ∀ M : JM, JX M K l cX3_hits RX3 3 (none) "hits" [] lv h0 QR QX → J M h0 0 ls []) : Ct K l yX3_hits wX3_hits lv av h0 QR QX := Ct.start F (by decide +kernel) hn hls body
theorem lk_X3_192_X3 : jLkV RX3 192 yX3_trims RX3 0 := ⟨q2464, q2465, q2466, ⟨by decide, by decide⟩, jNp_of (by decide +kernel)⟩
theorem lk_X3_180 : jLkS RX3 180 yJ8_min 2 := ⟨q2463, q494, ⟨by decide, by decide⟩, jNp_of (by decide +kernel)⟩
theorem lk_X3_176_X3 : jLkV RX3 176 yX3_fades RX3 1 := ⟨q2468, q2470, qs41, ⟨by decide, by decide⟩, jNp_of (by decide +kernel)⟩
abbrev wX3_fades : List Cond := ws_ yX3_fades cX3_fades 2 (none)
theorem ce_X3_fades : jCe yX3_fades cX3_fades 2 (none) := ⟨q2471, q77, by decide⟩
theorem st_X3_fades {K : JK} {l : Launch} {lv : Nat} {av : List Value} {h0 : JIH} {QR : JQR} {QX : JQX} (F : JF K) {ls : List (Option Value)} (hls : jent av 2 = ls) (hn : (jsl av).length ≤ 2 := by first | exact Nat.le_of_ble_eq_true rfl | (simp [jsl, jcat_v]; done)) (body : ∀ M : JM, JX M K l cX3_fades RX3 2 (none) "fades" [] lv h0 QR QX → J M h0 0 ls []) : Ct K l yX3_fades wX3_fades lv av h0 QR QX := Ct.start F (by decide +kernel) hn hls body
theorem lk_X3_195 : jLkS RX3 195 yJ8_max 2 := ⟨q2476, q806, ⟨by decide, by decide⟩, jNp_of (by decide +kernel)⟩
theorem lk_X4_3 : Cond.methodLink RX4 3 objectInit ∈ lw_all := q428
theorem fl_X4_9_X4 : jFL RX4 9 4 0 := ⟨RX4, TX4, 1, "SegmentedCache$Tape", rfl, by decide, Or.inl q429, Or.inl rfl⟩
theorem cl_X4_25 : jCL RX4 25 "SegmentedCache$Off" := q2676
theorem lk_X4_27 : jLkI RX4 27 yX11_init 1 := ⟨rfl, q2677, q2304, ⟨by decide, by decide⟩, jNp_of (by decide +kernel)⟩
theorem lk_X4_30_X4 : jLkV RX4 30 yX4_size RX4 0 := ⟨q2678, q2680, qs46, ⟨by decide, by decide⟩, jNp_of (by decide +kernel)⟩
theorem lk_X4_34 : jLkSN RX4 34 yX0_in 3 := ⟨⟨_, q2687⟩, q485, ⟨by decide, by decide⟩, jNp_of (by decide +kernel)⟩
theorem cl_X4_15 : jCL RX4 15 "[B" := q2682
theorem cl_X4_17 : jCL RX4 17 "[S" := q2683
theorem cl_X4_19 : jCL RX4 19 "[I" := q2684
theorem cl_X4_21 : jCL RX4 21 "[J" := q2685
theorem cl_X4_23 : jCL RX4 23 "[Z" := q2686
theorem lk_X5_5 : Cond.methodLink RX5 5 objectInit ∈ lw_all := q2736
theorem fl_X5_11_X5 : jFL RX5 11 5 0 := ⟨RX5, TX5, 19, "SegmentedCacheModel", rfl, by decide, Or.inl q2739, Or.inl rfl⟩
theorem pl_X5_11_X5 : jPL RX5 "<init>" 11 5 0 (.array (.int)) := ⟨RX5, TX5, 19, "SegmentedCacheModel", rfl, by decide, Or.inr ⟨q2739, rfl, rfl, rfl⟩, Or.inl rfl, by decide +kernel⟩
theorem fl_X5_15_X5 : jFL RX5 15 5 1 := ⟨RX5, TX5, 19, "SegmentedCacheModel", rfl, by decide, Or.inl q2740, Or.inl rfl⟩
theorem pl_X5_15_X5 : jPL RX5 "<init>" 15 5 1 (.array (.int)) := ⟨RX5, TX5, 19, "SegmentedCacheModel", rfl, by decide, Or.inr ⟨q2740, rfl, rfl, rfl⟩, Or.inl rfl, by decide +kernel⟩
theorem fl_X5_18_X5 : jFL RX5 18 5 2 := ⟨RX5, TX5, 19, "SegmentedCacheModel", rfl, by decide, Or.inl q2741, Or.inl rfl⟩
theorem pl_X5_18_X5 : jPL RX5 "<init>" 18 5 2 (.array (.int)) := ⟨RX5, TX5, 19, "SegmentedCacheModel", rfl, by decide, Or.inr ⟨q2741, rfl, rfl, rfl⟩, Or.inl rfl, by decide +kernel⟩
theorem fl_X5_21_X5 : jFL RX5 21 5 4 := ⟨RX5, TX5, 19, "SegmentedCacheModel", rfl, by decide, Or.inl q2743, Or.inl rfl⟩
theorem pl_X5_21_X5 : jPL RX5 "<init>" 21 5 4 (.array (.int)) := ⟨RX5, TX5, 19, "SegmentedCacheModel", rfl, by decide, Or.inr ⟨q2743, rfl, rfl, rfl⟩, Or.inl rfl, by decide +kernel⟩
theorem fl_X5_24_X5 : jFL RX5 24 5 6 := ⟨RX5, TX5, 19, "SegmentedCacheModel", rfl, by decide, Or.inl q2745, Or.inl rfl⟩
theorem pl_X5_24_X5 : jPL RX5 "<init>" 24 5 6 (.array (.int)) := ⟨RX5, TX5, 19, "SegmentedCacheModel", rfl, by decide, Or.inr ⟨q2745, rfl, rfl, rfl⟩, Or.inl rfl, by decide +kernel⟩
theorem fl_X5_27_X5 : jFL RX5 27 5 8 := ⟨RX5, TX5, 19, "SegmentedCacheModel", rfl, by decide, Or.inl q2747, Or.inl rfl⟩
theorem pl_X5_27_X5 : jPL RX5 "<init>" 27 5 8 (.array (.int)) := ⟨RX5, TX5, 19, "SegmentedCacheModel", rfl, by decide, Or.inr ⟨q2747, rfl, rfl, rfl⟩, Or.inl rfl, by decide +kernel⟩
theorem fl_X5_30_X5 : jFL RX5 30 5 9 := ⟨RX5, TX5, 19, "SegmentedCacheModel", rfl, by decide, Or.inl q2748, Or.inl rfl⟩
theorem pl_X5_30_X5 : jPL RX5 "<init>" 30 5 9 (.array (.int)) := ⟨RX5, TX5, 19, "SegmentedCacheModel", rfl, by decide, Or.inr ⟨q2748, rfl, rfl, rfl⟩, Or.inl rfl, by decide +kernel⟩
theorem fl_X5_33_X5 : jFL RX5 33 5 10 := ⟨RX5, TX5, 19, "SegmentedCacheModel", rfl, by decide, Or.inl q2749, Or.inl rfl⟩
theorem pl_X5_33_X5 : jPL RX5 "<init>" 33 5 10 (.array (.int)) := ⟨RX5, TX5, 19, "SegmentedCacheModel", rfl, by decide, Or.inr ⟨q2749, rfl, rfl, rfl⟩, Or.inl rfl, by decide +kernel⟩
theorem fl_X5_36_X5 : jFL RX5 36 5 11 := ⟨RX5, TX5, 19, "SegmentedCacheModel", rfl, by decide, Or.inl q2750, Or.inl rfl⟩
theorem pl_X5_36_X5 : jPL RX5 "<init>" 36 5 11 (.array (.int)) := ⟨RX5, TX5, 19, "SegmentedCacheModel", rfl, by decide, Or.inr ⟨q2750, rfl, rfl, rfl⟩, Or.inl rfl, by decide +kernel⟩
theorem fl_X5_39_X5 : jFL RX5 39 5 13 := ⟨RX5, TX5, 19, "SegmentedCacheModel", rfl, by decide, Or.inl q2752, Or.inl rfl⟩
theorem pl_X5_39_X5 : jPL RX5 "<init>" 39 5 13 (.array (.int)) := ⟨RX5, TX5, 19, "SegmentedCacheModel", rfl, by decide, Or.inr ⟨q2752, rfl, rfl, rfl⟩, Or.inl rfl, by decide +kernel⟩
theorem fl_X5_42_X5 : jFL RX5 42 5 14 := ⟨RX5, TX5, 19, "SegmentedCacheModel", rfl, by decide, Or.inl q2753, Or.inl rfl⟩
theorem pl_X5_42_X5 : jPL RX5 "<init>" 42 5 14 (.array (.int)) := ⟨RX5, TX5, 19, "SegmentedCacheModel", rfl, by decide, Or.inr ⟨q2753, rfl, rfl, rfl⟩, Or.inl rfl, by decide +kernel⟩
theorem fl_X5_47_X5 : jFL RX5 47 5 15 := ⟨RX5, TX5, 19, "SegmentedCacheModel", rfl, by decide, Or.inl q2754, Or.inl rfl⟩
theorem pl_X5_47_X5 : jPL RX5 "<init>" 47 5 15 (.array (.array (.long))) := ⟨RX5, TX5, 19, "SegmentedCacheModel", rfl, by decide, Or.inr ⟨q2754, rfl, rfl, rfl⟩, Or.inl rfl, by decide +kernel⟩
theorem fl_X5_50_X5 : jFL RX5 50 5 16 := ⟨RX5, TX5, 19, "SegmentedCacheModel", rfl, by decide, Or.inl q2755, Or.inl rfl⟩
theorem pl_X5_50_X5 : jPL RX5 "<init>" 50 5 16 (.array (.long)) := ⟨RX5, TX5, 19, "SegmentedCacheModel", rfl, by decide, Or.inr ⟨q2755, rfl, rfl, rfl⟩, Or.inl rfl, by decide +kernel⟩
theorem lk_X5_54 : jLkS RX5 54 yX5_in 3 := ⟨q2801, q2802, ⟨by decide, by decide⟩, jNp_of (by decide +kernel)⟩
abbrev wX5_in : List Cond := ws_ yX5_in cX5_in 3 ((some .boolean))
theorem ce_X5_in : jCe yX5_in cX5_in 3 ((some .boolean)) := ⟨q2803, q82, by decide⟩
theorem st_X5_in {K : JK} {l : Launch} {lv : Nat} {av : List Value} {h0 : JIH} {QR : JQR} {QX : JQX} (F : JF K) {ls : List (Option Value)} (hls : jent av 3 = ls) (hn : (jsl av).length ≤ 3 := by first | exact Nat.le_of_ble_eq_true rfl | (simp [jsl, jcat_v]; done)) (body : ∀ M : JM, JX M K l cX5_in RX5 3 ((some .boolean)) "in" [] lv h0 QR QX → J M h0 0 ls []) : Ct K l yX5_in wX5_in lv av h0 QR QX := Ct.start F (by decide +kernel) hn hls body
theorem lk_X5_93_X5 : jLkV RX5 93 yX5_capacity RX5 1 := ⟨q2804, q2806, qs47, ⟨by decide, by decide⟩, jNp_of (by decide +kernel)⟩
abbrev wX5_capacity : List Cond := ws_ yX5_capacity cX5_capacity 2 (none)
theorem ce_X5_capacity : jCe yX5_capacity cX5_capacity 2 (none) := ⟨q2807, q82, by decide⟩
theorem st_X5_capacity {K : JK} {l : Launch} {lv : Nat} {av : List Value} {h0 : JIH} {QR : JQR} {QX : JQX} (F : JF K) {ls : List (Option Value)} (hls : jent av 2 = ls) (hn : (jsl av).length ≤ 2 := by first | exact Nat.le_of_ble_eq_true rfl | (simp [jsl, jcat_v]; done)) (body : ∀ M : JM, JX M K l cX5_capacity RX5 2 (none) "capacity" [] lv h0 QR QX → J M h0 0 ls []) : Ct K l yX5_capacity wX5_capacity lv av h0 QR QX := Ct.start F (by decide +kernel) hn hls body
theorem lk_X5_86_X5 : jLkV RX5 86 yX5_trim RX5 0 := ⟨q2808, q2810, qs48, ⟨by decide, by decide⟩, jNp_of (by decide +kernel)⟩
abbrev wX5_trim : List Cond := ws_ yX5_trim cX5_trim 2 (none)
theorem ce_X5_trim : jCe yX5_trim cX5_trim 2 (none) := ⟨q2811, q82, by decide⟩
theorem st_X5_trim {K : JK} {l : Launch} {lv : Nat} {av : List Value} {h0 : JIH} {QR : JQR} {QX : JQX} (F : JF K) {ls : List (Option Value)} (hls : jent av 2 = ls) (hn : (jsl av).length ≤ 2 := by first | exact Nat.le_of_ble_eq_true rfl | (simp [jsl, jcat_v]; done)) (body : ∀ M : JM, JX M K l cX5_trim RX5 2 (none) "trim" [] lv h0 QR QX → J M h0 0 ls []) : Ct K l yX5_trim wX5_trim lv av h0 QR QX := Ct.start F (by decide +kernel) hn hls body
theorem lk_X5_73_X5 : jLkV RX5 73 yX5_sinks RX5 0 := ⟨q2812, q2814, qs49, ⟨by decide, by decide⟩, jNp_of (by decide +kernel)⟩
abbrev wX5_sinks : List Cond := ws_ yX5_sinks cX5_sinks 2 (none)
theorem ce_X5_sinks : jCe yX5_sinks cX5_sinks 2 (none) := ⟨q2815, q82, by decide⟩
theorem st_X5_sinks {K : JK} {l : Launch} {lv : Nat} {av : List Value} {h0 : JIH} {QR : JQR} {QX : JQX} (F : JF K) {ls : List (Option Value)} (hls : jent av 2 = ls) (hn : (jsl av).length ≤ 2 := by first | exact Nat.le_of_ble_eq_true rfl | (simp [jsl, jcat_v]; done)) (body : ∀ M : JM, JX M K l cX5_sinks RX5 2 (none) "sinks" [] lv h0 QR QX → J M h0 0 ls []) : Ct K l yX5_sinks wX5_sinks lv av h0 QR QX := Ct.start F (by decide +kernel) hn hls body
theorem lk_X5_76_X5 : jLkV RX5 76 yX5_lets RX5 0 := ⟨q2824, q2826, qs52, ⟨by decide, by decide⟩, jNp_of (by decide +kernel)⟩
abbrev wX5_lets : List Cond := ws_ yX5_lets cX5_lets 3 (none)
theorem ce_X5_lets : jCe yX5_lets cX5_lets 3 (none) := ⟨q2827, q82, by decide⟩
theorem st_X5_lets {K : JK} {l : Launch} {lv : Nat} {av : List Value} {h0 : JIH} {QR : JQR} {QX : JQX} (F : JF K) {ls : List (Option Value)} (hls : jent av 3 = ls) (hn : (jsl av).length ≤ 3 := by first | exact Nat.le_of_ble_eq_true rfl | (simp [jsl, jcat_v]; done)) (body : ∀ M : JM, JX M K l cX5_lets RX5 3 (none) "lets" [] lv h0 QR QX → J M h0 0 ls []) : Ct K l yX5_lets wX5_lets lv av h0 QR QX := Ct.start F (by decide +kernel) hn hls body
theorem lk_X5_66_X5 : jLkV RX5 66 yX5_oldest RX5 2 := ⟨q2816, q2818, qs50, ⟨by decide, by decide⟩, jNp_of (by decide +kernel)⟩
abbrev wX5_oldest : List Cond := ws_ yX5_oldest cX5_oldest 5 ((some .int))
theorem ce_X5_oldest : jCe yX5_oldest cX5_oldest 5 ((some .int)) := ⟨q2819, q82, by decide⟩
theorem st_X5_oldest {K : JK} {l : Launch} {lv : Nat} {av : List Value} {h0 : JIH} {QR : JQR} {QX : JQX} (F : JF K) {ls : List (Option Value)} (hls : jent av 5 = ls) (hn : (jsl av).length ≤ 5 := by first | exact Nat.le_of_ble_eq_true rfl | (simp [jsl, jcat_v]; done)) (body : ∀ M : JM, JX M K l cX5_oldest RX5 5 ((some .int)) "oldest" [] lv h0 QR QX → J M h0 0 ls []) : Ct K l yX5_oldest wX5_oldest lv av h0 QR QX := Ct.start F (by decide +kernel) hn hls body
theorem lk_X5_58_X5 : jLkV RX5 58 yX5_goes RX5 2 := ⟨q2820, q2822, qs51, ⟨by decide, by decide⟩, jNp_of (by decide +kernel)⟩
abbrev wX5_goes : List Cond := ws_ yX5_goes cX5_goes 3 (none)
theorem ce_X5_goes : jCe yX5_goes cX5_goes 3 (none) := ⟨q2823, q82, by decide⟩
theorem st_X5_goes {K : JK} {l : Launch} {lv : Nat} {av : List Value} {h0 : JIH} {QR : JQR} {QX : JQX} (F : JF K) {ls : List (Option Value)} (hls : jent av 3 = ls) (hn : (jsl av).length ≤ 3 := by first | exact Nat.le_of_ble_eq_true rfl | (simp [jsl, jcat_v]; done)) (body : ∀ M : JM, JX M K l cX5_goes RX5 3 (none) "goes" [] lv h0 QR QX → J M h0 0 ls []) : Ct K l yX5_goes wX5_goes lv av h0 QR QX := Ct.start F (by decide +kernel) hn hls body
theorem lk_X5_70_X5 : jLkV RX5 70 yX5_went RX5 2 := ⟨q2828, q2830, qs53, ⟨by decide, by decide⟩, jNp_of (by decide +kernel)⟩
abbrev wX5_went : List Cond := ws_ yX5_went cX5_went 4 (none)
theorem ce_X5_went : jCe yX5_went cX5_went 4 (none) := ⟨q2831, q82, by decide⟩
theorem st_X5_went {K : JK} {l : Launch} {lv : Nat} {av : List Value} {h0 : JIH} {QR : JQR} {QX : JQX} (F : JF K) {ls : List (Option Value)} (hls : jent av 4 = ls) (hn : (jsl av).length ≤ 4 := by first | exact Nat.le_of_ble_eq_true rfl | (simp [jsl, jcat_v]; done)) (body : ∀ M : JM, JX M K l cX5_went RX5 4 (none) "went" [] lv h0 QR QX → J M h0 0 ls []) : Ct K l yX5_went wX5_went lv av h0 QR QX := Ct.start F (by decide +kernel) hn hls body
theorem fl_X5_62_X5 : jFL RX5 62 5 5 := ⟨RX5, TX5, 19, "SegmentedCacheModel", rfl, by decide, Or.inl q2744, Or.inl rfl⟩
theorem pl_X5_62_X5 (nm : String) : jPL RX5 nm 62 5 5 (.int) := ⟨RX5, TX5, 19, "SegmentedCacheModel", rfl, by decide, Or.inl ⟨Or.inl q2744, rfl⟩, Or.inl rfl, by decide +kernel⟩
theorem lk_X5_96 : jLkS RX5 96 yX5_isKey 2 := ⟨q2840, q2841, ⟨by decide, by decide⟩, jNp_of (by decide +kernel)⟩
abbrev wX5_isKey : List Cond := ws_ yX5_isKey cX5_isKey 2 ((some .boolean))
theorem ce_X5_isKey : jCe yX5_isKey cX5_isKey 2 ((some .boolean)) := ⟨q2842, q82, by decide⟩
theorem st_X5_isKey {K : JK} {l : Launch} {lv : Nat} {av : List Value} {h0 : JIH} {QR : JQR} {QX : JQX} (F : JF K) {ls : List (Option Value)} (hls : jent av 2 = ls) (hn : (jsl av).length ≤ 2 := by first | exact Nat.le_of_ble_eq_true rfl | (simp [jsl, jcat_v]; done)) (body : ∀ M : JM, JX M K l cX5_isKey RX5 2 ((some .boolean)) "isKey" [] lv h0 QR QX → J M h0 0 ls []) : Ct K l yX5_isKey wX5_isKey lv av h0 QR QX := Ct.start F (by decide +kernel) hn hls body
theorem lk_X5_100_X5 : jLkV RX5 100 yX5_putIn RX5 4 := ⟨q2843, q2845, qs54, ⟨by decide, by decide⟩, jNp_of (by decide +kernel)⟩
abbrev wX5_putIn : List Cond := ws_ yX5_putIn cX5_putIn 6 ((some .int))
theorem ce_X5_putIn : jCe yX5_putIn cX5_putIn 6 ((some .int)) := ⟨q2846, q82, by decide⟩
theorem st_X5_putIn {K : JK} {l : Launch} {lv : Nat} {av : List Value} {h0 : JIH} {QR : JQR} {QX : JQX} (F : JF K) {ls : List (Option Value)} (hls : jent av 6 = ls) (hn : (jsl av).length ≤ 6 := by first | exact Nat.le_of_ble_eq_true rfl | (simp [jsl, jcat_v]; done)) (body : ∀ M : JM, JX M K l cX5_putIn RX5 6 ((some .int)) "putIn" [] lv h0 QR QX → J M h0 0 ls []) : Ct K l yX5_putIn wX5_putIn lv av h0 QR QX := Ct.start F (by decide +kernel) hn hls body
theorem lk_X5_79_X5 : jLkV RX5 79 yX5_weighs RX5 2 := ⟨q2847, q2849, qs55, ⟨by decide, by decide⟩, jNp_of (by decide +kernel)⟩
abbrev wX5_weighs : List Cond := ws_ yX5_weighs cX5_weighs 3 (none)
theorem ce_X5_weighs : jCe yX5_weighs cX5_weighs 3 (none) := ⟨q2850, q82, by decide⟩
theorem st_X5_weighs {K : JK} {l : Launch} {lv : Nat} {av : List Value} {h0 : JIH} {QR : JQR} {QX : JQX} (F : JF K) {ls : List (Option Value)} (hls : jent av 3 = ls) (hn : (jsl av).length ≤ 3 := by first | exact Nat.le_of_ble_eq_true rfl | (simp [jsl, jcat_v]; done)) (body : ∀ M : JM, JX M K l cX5_weighs RX5 3 (none) "weighs" [] lv h0 QR QX → J M h0 0 ls []) : Ct K l yX5_weighs wX5_weighs lv av h0 QR QX := Ct.start F (by decide +kernel) hn hls body
theorem lk_X5_82_X5 : jLkV RX5 82 yX5_hit RX5 1 := ⟨q2851, q2853, qs56, ⟨by decide, by decide⟩, jNp_of (by decide +kernel)⟩
abbrev wX5_hit : List Cond := ws_ yX5_hit cX5_hit 2 (none)
theorem ce_X5_hit : jCe yX5_hit cX5_hit 2 (none) := ⟨q2854, q82, by decide⟩
theorem st_X5_hit {K : JK} {l : Launch} {lv : Nat} {av : List Value} {h0 : JIH} {QR : JQR} {QX : JQX} (F : JF K) {ls : List (Option Value)} (hls : jent av 2 = ls) (hn : (jsl av).length ≤ 2 := by first | exact Nat.le_of_ble_eq_true rfl | (simp [jsl, jcat_v]; done)) (body : ∀ M : JM, JX M K l cX5_hit RX5 2 (none) "hit" [] lv h0 QR QX → J M h0 0 ls []) : Ct K l yX5_hit wX5_hit lv av h0 QR QX := Ct.start F (by decide +kernel) hn hls body
theorem lk_X5_106_X5 : jLkV RX5 106 yX5_gets RX5 1 := ⟨q2860, q2862, qs57, ⟨by decide, by decide⟩, jNp_of (by decide +kernel)⟩
abbrev wX5_gets : List Cond := ws_ yX5_gets cX5_gets 2 ((some .boolean))
theorem ce_X5_gets : jCe yX5_gets cX5_gets 2 ((some .boolean)) := ⟨q2863, q82, by decide⟩
theorem st_X5_gets {K : JK} {l : Launch} {lv : Nat} {av : List Value} {h0 : JIH} {QR : JQR} {QX : JQX} (F : JF K) {ls : List (Option Value)} (hls : jent av 2 = ls) (hn : (jsl av).length ≤ 2 := by first | exact Nat.le_of_ble_eq_true rfl | (simp [jsl, jcat_v]; done)) (body : ∀ M : JM, JX M K l cX5_gets RX5 2 ((some .boolean)) "gets" [] lv h0 QR QX → J M h0 0 ls []) : Ct K l yX5_gets wX5_gets lv av h0 QR QX := Ct.start F (by decide +kernel) hn hls body
theorem lk_X5_89_X5 : jLkV RX5 89 yX5_isThing RX5 1 := ⟨q2864, q2866, qs58, ⟨by decide, by decide⟩, jNp_of (by decide +kernel)⟩
abbrev wX5_isThing : List Cond := ws_ yX5_isThing cX5_isThing 2 ((some .boolean))
theorem ce_X5_isThing : jCe yX5_isThing cX5_isThing 2 ((some .boolean)) := ⟨q2867, q82, by decide⟩
theorem st_X5_isThing {K : JK} {l : Launch} {lv : Nat} {av : List Value} {h0 : JIH} {QR : JQR} {QX : JQX} (F : JF K) {ls : List (Option Value)} (hls : jent av 2 = ls) (hn : (jsl av).length ≤ 2 := by first | exact Nat.le_of_ble_eq_true rfl | (simp [jsl, jcat_v]; done)) (body : ∀ M : JM, JX M K l cX5_isThing RX5 2 ((some .boolean)) "isThing" [] lv h0 QR QX → J M h0 0 ls []) : Ct K l yX5_isThing wX5_isThing lv av h0 QR QX := Ct.start F (by decide +kernel) hn hls body
theorem lk_X5_109_X5 : jLkV RX5 109 yX5_drops RX5 1 := ⟨q2872, q2874, qs59, ⟨by decide, by decide⟩, jNp_of (by decide +kernel)⟩
abbrev wX5_drops : List Cond := ws_ yX5_drops cX5_drops 3 ((some .int))
theorem ce_X5_drops : jCe yX5_drops cX5_drops 3 ((some .int)) := ⟨q2875, q82, by decide⟩
theorem st_X5_drops {K : JK} {l : Launch} {lv : Nat} {av : List Value} {h0 : JIH} {QR : JQR} {QX : JQX} (F : JF K) {ls : List (Option Value)} (hls : jent av 3 = ls) (hn : (jsl av).length ≤ 3 := by first | exact Nat.le_of_ble_eq_true rfl | (simp [jsl, jcat_v]; done)) (body : ∀ M : JM, JX M K l cX5_drops RX5 3 ((some .int)) "drops" [] lv h0 QR QX → J M h0 0 ls []) : Ct K l yX5_drops wX5_drops lv av h0 QR QX := Ct.start F (by decide +kernel) hn hls body
theorem lk_X5_113_X5 : jLkV RX5 113 yX5_placeOf RX5 1 := ⟨q2884, q2886, qs60, ⟨by decide, by decide⟩, jNp_of (by decide +kernel)⟩
abbrev wX5_placeOf : List Cond := ws_ yX5_placeOf cX5_placeOf 4 ((some .int))
theorem ce_X5_placeOf : jCe yX5_placeOf cX5_placeOf 4 ((some .int)) := ⟨q2887, q82, by decide⟩
theorem st_X5_placeOf {K : JK} {l : Launch} {lv : Nat} {av : List Value} {h0 : JIH} {QR : JQR} {QX : JQX} (F : JF K) {ls : List (Option Value)} (hls : jent av 4 = ls) (hn : (jsl av).length ≤ 4 := by first | exact Nat.le_of_ble_eq_true rfl | (simp [jsl, jcat_v]; done)) (body : ∀ M : JM, JX M K l cX5_placeOf RX5 4 ((some .int)) "placeOf" [] lv h0 QR QX → J M h0 0 ls []) : Ct K l yX5_placeOf wX5_placeOf lv av h0 QR QX := Ct.start F (by decide +kernel) hn hls body
theorem lk_X5_116_X5 : jLkV RX5 116 yX5_keyAt RX5 2 := ⟨q2892, q2894, qs61, ⟨by decide, by decide⟩, jNp_of (by decide +kernel)⟩
abbrev wX5_keyAt : List Cond := ws_ yX5_keyAt cX5_keyAt 4 ((some .int))
theorem ce_X5_keyAt : jCe yX5_keyAt cX5_keyAt 4 ((some .int)) := ⟨q2895, q82, by decide⟩
theorem st_X5_keyAt {K : JK} {l : Launch} {lv : Nat} {av : List Value} {h0 : JIH} {QR : JQR} {QX : JQX} (F : JF K) {ls : List (Option Value)} (hls : jent av 4 = ls) (hn : (jsl av).length ≤ 4 := by first | exact Nat.le_of_ble_eq_true rfl | (simp [jsl, jcat_v]; done)) (body : ∀ M : JM, JX M K l cX5_keyAt RX5 4 ((some .int)) "keyAt" [] lv h0 QR QX → J M h0 0 ls []) : Ct K l yX5_keyAt wX5_keyAt lv av h0 QR QX := Ct.start F (by decide +kernel) hn hls body
theorem lk_X5_120 : jLkS RX5 120 yX5_copy 2 := ⟨q2904, q2905, ⟨by decide, by decide⟩, jNp_of (by decide +kernel)⟩
abbrev wX5_copy : List Cond := ws_ yX5_copy cX5_copy 3 (none)
theorem ce_X5_copy : jCe yX5_copy cX5_copy 3 (none) := ⟨q2906, q82, by decide⟩
theorem st_X5_copy {K : JK} {l : Launch} {lv : Nat} {av : List Value} {h0 : JIH} {QR : JQR} {QX : JQX} (F : JF K) {ls : List (Option Value)} (hls : jent av 3 = ls) (hn : (jsl av).length ≤ 3 := by first | exact Nat.le_of_ble_eq_true rfl | (simp [jsl, jcat_v]; done)) (body : ∀ M : JM, JX M K l cX5_copy RX5 3 (none) "copy" [] lv h0 QR QX → J M h0 0 ls []) : Ct K l yX5_copy wX5_copy lv av h0 QR QX := Ct.start F (by decide +kernel) hn hls body
theorem fl_X5_124_X5 : jFL RX5 124 5 7 := ⟨RX5, TX5, 19, "SegmentedCacheModel", rfl, by decide, Or.inl q2746, Or.inl rfl⟩
theorem pl_X5_124_X5 (nm : String) : jPL RX5 nm 124 5 7 (.int) := ⟨RX5, TX5, 19, "SegmentedCacheModel", rfl, by decide, Or.inl ⟨Or.inl q2746, rfl⟩, Or.inl rfl, by decide +kernel⟩
theorem fl_X5_139_X5 : jFL RX5 139 5 12 := ⟨RX5, TX5, 19, "SegmentedCacheModel", rfl, by decide, Or.inl q2751, Or.inl rfl⟩
theorem fl_X5_130_X5 : jFL RX5 130 5 17 := ⟨RX5, TX5, 19, "SegmentedCacheModel", rfl, by decide, Or.inl q2756, Or.inl rfl⟩
theorem pl_X5_130_X5 (nm : String) : jPL RX5 nm 130 5 17 (.int) := ⟨RX5, TX5, 19, "SegmentedCacheModel", rfl, by decide, Or.inl ⟨Or.inl q2756, rfl⟩, Or.inl rfl, by decide +kernel⟩
theorem fl_X5_127_X5 : jFL RX5 127 5 18 := ⟨RX5, TX5, 19, "SegmentedCacheModel", rfl, by decide, Or.inl q2757, Or.inl rfl⟩
theorem pl_X5_127_X5 (nm : String) : jPL RX5 nm 127 5 18 (.int) := ⟨RX5, TX5, 19, "SegmentedCacheModel", rfl, by decide, Or.inl ⟨Or.inl q2757, rfl⟩, Or.inl rfl, by decide +kernel⟩
theorem lk_X5_142_X5 : jLkV RX5 142 yX5_clause RX5 1 := ⟨q2915, q2917, qs62, ⟨by decide, by decide⟩, jNp_of (by decide +kernel)⟩
abbrev wX5_clause : List Cond := ws_ yX5_clause cX5_clause 5 (none)
theorem ce_X5_clause : jCe yX5_clause cX5_clause 5 (none) := ⟨q2918, q82, by decide⟩
theorem st_X5_clause {K : JK} {l : Launch} {lv : Nat} {av : List Value} {h0 : JIH} {QR : JQR} {QX : JQX} (F : JF K) {ls : List (Option Value)} (hls : jent av 5 = ls) (hn : (jsl av).length ≤ 5 := by first | exact Nat.le_of_ble_eq_true rfl | (simp [jsl, jcat_v]; done)) (body : ∀ M : JM, JX M K l cX5_clause RX5 5 (none) "clause" [] lv h0 QR QX → J M h0 0 ls []) : Ct K l yX5_clause wX5_clause lv av h0 QR QX := Ct.start F (by decide +kernel) hn hls body
theorem lk_X5_136_X5 : jLkV RX5 136 yX5_must RX5 2 := ⟨q2923, q2925, qs64, ⟨by decide, by decide⟩, jNp_of (by decide +kernel)⟩
abbrev wX5_must : List Cond := ws_ yX5_must cX5_must 3 ((some .int))
theorem ce_X5_must : jCe yX5_must cX5_must 3 ((some .int)) := ⟨q2926, q82, by decide⟩
theorem st_X5_must {K : JK} {l : Launch} {lv : Nat} {av : List Value} {h0 : JIH} {QR : JQR} {QX : JQX} (F : JF K) {ls : List (Option Value)} (hls : jent av 3 = ls) (hn : (jsl av).length ≤ 3 := by first | exact Nat.le_of_ble_eq_true rfl | (simp [jsl, jcat_v]; done)) (body : ∀ M : JM, JX M K l cX5_must RX5 3 ((some .int)) "must" [] lv h0 QR QX → J M h0 0 ls []) : Ct K l yX5_must wX5_must lv av h0 QR QX := Ct.start F (by decide +kernel) hn hls body
theorem pl_X5_139_X5 (nm : String) : jPL RX5 nm 139 5 12 (.int) := ⟨RX5, TX5, 19, "SegmentedCacheModel", rfl, by decide, Or.inl ⟨Or.inl q2751, rfl⟩, Or.inl rfl, by decide +kernel⟩
theorem lk_X5_133_X5 : jLkV RX5 133 yX5_sees RX5 2 := ⟨q2919, q2921, qs63, ⟨by decide, by decide⟩, jNp_of (by decide +kernel)⟩
abbrev wX5_sees : List Cond := ws_ yX5_sees cX5_sees 3 ((some .boolean))
theorem ce_X5_sees : jCe yX5_sees cX5_sees 3 ((some .boolean)) := ⟨q2922, q82, by decide⟩
theorem st_X5_sees {K : JK} {l : Launch} {lv : Nat} {av : List Value} {h0 : JIH} {QR : JQR} {QX : JQX} (F : JF K) {ls : List (Option Value)} (hls : jent av 3 = ls) (hn : (jsl av).length ≤ 3 := by first | exact Nat.le_of_ble_eq_true rfl | (simp [jsl, jcat_v]; done)) (body : ∀ M : JM, JX M K l cX5_sees RX5 3 ((some .boolean)) "sees" [] lv h0 QR QX → J M h0 0 ls []) : Ct K l yX5_sees wX5_sees lv av h0 QR QX := Ct.start F (by decide +kernel) hn hls body
theorem lk_X5_145_X5 : jLkV RX5 145 yX5_isTrace RX5 1 := ⟨q2931, q2933, qs65, ⟨by decide, by decide⟩, jNp_of (by decide +kernel)⟩
abbrev wX5_isTrace : List Cond := ws_ yX5_isTrace cX5_isTrace 2 ((some .boolean))
theorem ce_X5_isTrace : jCe yX5_isTrace cX5_isTrace 2 ((some .boolean)) := ⟨q2934, q82, by decide⟩
theorem st_X5_isTrace {K : JK} {l : Launch} {lv : Nat} {av : List Value} {h0 : JIH} {QR : JQR} {QX : JQX} (F : JF K) {ls : List (Option Value)} (hls : jent av 2 = ls) (hn : (jsl av).length ≤ 2 := by first | exact Nat.le_of_ble_eq_true rfl | (simp [jsl, jcat_v]; done)) (body : ∀ M : JM, JX M K l cX5_isTrace RX5 2 ((some .boolean)) "isTrace" [] lv h0 QR QX → J M h0 0 ls []) : Ct K l yX5_isTrace wX5_isTrace lv av h0 QR QX := Ct.start F (by decide +kernel) hn hls body
theorem lk_X5_148_X5 : jLkV RX5 148 yX5_runs RX5 1 := ⟨q2935, q2937, qs66, ⟨by decide, by decide⟩, jNp_of (by decide +kernel)⟩
abbrev wX5_runs : List Cond := ws_ yX5_runs cX5_runs 4 ((some .int))
theorem ce_X5_runs : jCe yX5_runs cX5_runs 4 ((some .int)) := ⟨q2938, q82, by decide⟩
theorem st_X5_runs {K : JK} {l : Launch} {lv : Nat} {av : List Value} {h0 : JIH} {QR : JQR} {QX : JQX} (F : JF K) {ls : List (Option Value)} (hls : jent av 4 = ls) (hn : (jsl av).length ≤ 4 := by first | exact Nat.le_of_ble_eq_true rfl | (simp [jsl, jcat_v]; done)) (body : ∀ M : JM, JX M K l cX5_runs RX5 4 ((some .int)) "runs" [] lv h0 QR QX → J M h0 0 ls []) : Ct K l yX5_runs wX5_runs lv av h0 QR QX := Ct.start F (by decide +kernel) hn hls body
theorem lk_X5_154 : jLkS RX5 154 yX5_part 3 := ⟨q2951, q2952, ⟨by decide, by decide⟩, jNp_of (by decide +kernel)⟩
abbrev wX5_part : List Cond := ws_ yX5_part cX5_part 4 ((some .long))
theorem ce_X5_part : jCe yX5_part cX5_part 4 ((some .long)) := ⟨q2953, q82, by decide⟩
theorem st_X5_part {K : JK} {l : Launch} {lv : Nat} {av : List Value} {h0 : JIH} {QR : JQR} {QX : JQX} (F : JF K) {ls : List (Option Value)} (hls : jent av 4 = ls) (hn : (jsl av).length ≤ 4 := by first | exact Nat.le_of_ble_eq_true rfl | (simp [jsl, jcat_v]; done)) (body : ∀ M : JM, JX M K l cX5_part RX5 4 ((some .long)) "part" [] lv h0 QR QX → J M h0 0 ls []) : Ct K l yX5_part wX5_part lv av h0 QR QX := Ct.start F (by decide +kernel) hn hls body
theorem lk_X5_151 : jLkS RX5 151 yX5_common 2 := ⟨q2954, q2955, ⟨by decide, by decide⟩, jNp_of (by decide +kernel)⟩
abbrev wX5_common : List Cond := ws_ yX5_common cX5_common 5 ((some .int))
theorem ce_X5_common : jCe yX5_common cX5_common 5 ((some .int)) := ⟨q2956, q82, by decide⟩
theorem st_X5_common {K : JK} {l : Launch} {lv : Nat} {av : List Value} {h0 : JIH} {QR : JQR} {QX : JQX} (F : JF K) {ls : List (Option Value)} (hls : jent av 5 = ls) (hn : (jsl av).length ≤ 5 := by first | exact Nat.le_of_ble_eq_true rfl | (simp [jsl, jcat_v]; done)) (body : ∀ M : JM, JX M K l cX5_common RX5 5 ((some .int)) "common" [] lv h0 QR QX → J M h0 0 ls []) : Ct K l yX5_common wX5_common lv av h0 QR QX := Ct.start F (by decide +kernel) hn hls body
theorem lk_X5_158_X5 : jLkV RX5 158 yX5_manyAt RX5 1 := ⟨q2961, q2963, qs67, ⟨by decide, by decide⟩, jNp_of (by decide +kernel)⟩
abbrev wX5_manyAt : List Cond := ws_ yX5_manyAt cX5_manyAt 4 ((some .int))
theorem ce_X5_manyAt : jCe yX5_manyAt cX5_manyAt 4 ((some .int)) := ⟨q2964, q82, by decide⟩
theorem st_X5_manyAt {K : JK} {l : Launch} {lv : Nat} {av : List Value} {h0 : JIH} {QR : JQR} {QX : JQX} (F : JF K) {ls : List (Option Value)} (hls : jent av 4 = ls) (hn : (jsl av).length ≤ 4 := by first | exact Nat.le_of_ble_eq_true rfl | (simp [jsl, jcat_v]; done)) (body : ∀ M : JM, JX M K l cX5_manyAt RX5 4 ((some .int)) "manyAt" [] lv h0 QR QX → J M h0 0 ls []) : Ct K l yX5_manyAt wX5_manyAt lv av h0 QR QX := Ct.start F (by decide +kernel) hn hls body
theorem lk_X5_161 : jLkS RX5 161 yX5_isTape 1 := ⟨q2977, q2978, ⟨by decide, by decide⟩, jNp_of (by decide +kernel)⟩
abbrev wX5_isTape : List Cond := ws_ yX5_isTape cX5_isTape 1 ((some .boolean))
theorem ce_X5_isTape : jCe yX5_isTape cX5_isTape 1 ((some .boolean)) := ⟨q2979, q82, by decide⟩
theorem st_X5_isTape {K : JK} {l : Launch} {lv : Nat} {av : List Value} {h0 : JIH} {QR : JQR} {QX : JQX} (F : JF K) {ls : List (Option Value)} (hls : jent av 1 = ls) (hn : (jsl av).length ≤ 1 := by first | exact Nat.le_of_ble_eq_true rfl | (simp [jsl, jcat_v]; done)) (body : ∀ M : JM, JX M K l cX5_isTape RX5 1 ((some .boolean)) "isTape" [] lv h0 QR QX → J M h0 0 ls []) : Ct K l yX5_isTape wX5_isTape lv av h0 QR QX := Ct.start F (by decide +kernel) hn hls body
theorem fl_X5_164_X5 : jFL RX5 164 5 3 := ⟨RX5, TX5, 19, "SegmentedCacheModel", rfl, by decide, Or.inl q2742, Or.inl rfl⟩
theorem pl_X5_164_X5 (nm : String) : jPL RX5 nm 164 5 3 (.boolean) := ⟨RX5, TX5, 19, "SegmentedCacheModel", rfl, by decide, Or.inl ⟨Or.inl q2742, rfl⟩, Or.inl rfl, by decide +kernel⟩
theorem lk_X5_168 : jLkS RX5 168 yX5_fit 2 := ⟨q3000, q3001, ⟨by decide, by decide⟩, jNp_of (by decide +kernel)⟩
abbrev wX5_fit : List Cond := ws_ yX5_fit cX5_fit 3 ((some .long))
theorem ce_X5_fit : jCe yX5_fit cX5_fit 3 ((some .long)) := ⟨q3002, q82, by decide⟩
theorem st_X5_fit {K : JK} {l : Launch} {lv : Nat} {av : List Value} {h0 : JIH} {QR : JQR} {QX : JQX} (F : JF K) {ls : List (Option Value)} (hls : jent av 3 = ls) (hn : (jsl av).length ≤ 3 := by first | exact Nat.le_of_ble_eq_true rfl | (simp [jsl, jcat_v]; done)) (body : ∀ M : JM, JX M K l cX5_fit RX5 3 ((some .long)) "fit" [] lv h0 QR QX → J M h0 0 ls []) : Ct K l yX5_fit wX5_fit lv av h0 QR QX := Ct.start F (by decide +kernel) hn hls body
theorem lk_X6_1 : Cond.methodLink RX6 1 objectInit ∈ lw_all := q1221
theorem fl_X6_7_X6 : jFL RX6 7 6 0 := ⟨RX6, TX6, 2, "SegmentedCache$Going", rfl, by decide, Or.inl q1222, Or.inl rfl⟩
theorem pl_X6_7_X6 : jPL RX6 "<init>" 7 6 0 (.object "SegmentedCache$Key") := ⟨RX6, TX6, 2, "SegmentedCache$Going", rfl, by decide, Or.inr ⟨q1222, rfl, rfl, rfl⟩, Or.inl rfl, by decide +kernel⟩
theorem fl_X6_13_X6 : jFL RX6 13 6 1 := ⟨RX6, TX6, 2, "SegmentedCache$Going", rfl, by decide, Or.inl q1224, Or.inl rfl⟩
theorem pl_X6_13_X6 : jPL RX6 "<init>" 13 6 1 (.object "SegmentedCache$Thing") := ⟨RX6, TX6, 2, "SegmentedCache$Going", rfl, by decide, Or.inr ⟨q1224, rfl, rfl, rfl⟩, Or.inl rfl, by decide +kernel⟩
theorem lk_X7_22 : jLkI RX7 22 yX7_init_2 4 := ⟨rfl, q1881, q1882, ⟨by decide, by decide⟩, jNp_of (by decide +kernel)⟩
theorem lk_X7_1 : Cond.methodLink RX7 1 objectInit ∈ lw_all := q1884
theorem fl_X7_7_X7 : jFL RX7 7 7 0 := ⟨RX7, TX7, 6, "SegmentedCache$Thing", rfl, by decide, Or.inl q1885, Or.inl rfl⟩
theorem pl_X7_7_X7 (nm : String) : jPL RX7 nm 7 7 0 (.int) := ⟨RX7, TX7, 6, "SegmentedCache$Thing", rfl, by decide, Or.inl ⟨Or.inl q1885, rfl⟩, Or.inl rfl, by decide +kernel⟩
theorem fl_X7_13_X7 : jFL RX7 13 7 1 := ⟨RX7, TX7, 6, "SegmentedCache$Thing", rfl, by decide, Or.inl q1888, Or.inl rfl⟩
theorem pl_X7_13_X7 (nm : String) : jPL RX7 nm 13 7 1 (.int) := ⟨RX7, TX7, 6, "SegmentedCache$Thing", rfl, by decide, Or.inl ⟨Or.inl q1888, rfl⟩, Or.inl rfl, by decide +kernel⟩
theorem fl_X7_16_X7 : jFL RX7 16 7 2 := ⟨RX7, TX7, 6, "SegmentedCache$Thing", rfl, by decide, Or.inl q1893, Or.inl rfl⟩
theorem pl_X7_16_X7 (nm : String) : jPL RX7 nm 16 7 2 (.int) := ⟨RX7, TX7, 6, "SegmentedCache$Thing", rfl, by decide, Or.inl ⟨Or.inl q1893, rfl⟩, Or.inl rfl, by decide +kernel⟩
theorem fl_X7_19_X7 : jFL RX7 19 7 4 := ⟨RX7, TX7, 6, "SegmentedCache$Thing", rfl, by decide, Or.inl q1900, Or.inl rfl⟩
theorem pl_X7_19_X7 (nm : String) : jPL RX7 nm 19 7 4 (.int) := ⟨RX7, TX7, 6, "SegmentedCache$Thing", rfl, by decide, Or.inl ⟨Or.inl q1900, rfl⟩, Or.inl rfl, by decide +kernel⟩
theorem fl_X7_25_X7 : jFL RX7 25 7 3 := ⟨RX7, TX7, 6, "SegmentedCache$Thing", rfl, by decide, Or.inl q1896, Or.inl rfl⟩
theorem pl_X7_25_X7 (nm : String) : jPL RX7 nm 25 7 3 (.int) := ⟨RX7, TX7, 6, "SegmentedCache$Thing", rfl, by decide, Or.inl ⟨Or.inl q1896, rfl⟩, Or.inl rfl, by decide +kernel⟩
theorem fl_X7_28_X7 : jFL RX7 28 7 5 := ⟨RX7, TX7, 6, "SegmentedCache$Thing", rfl, by decide, Or.inl q1904, Or.inl rfl⟩
theorem pl_X7_28_X7 (nm : String) : jPL RX7 nm 28 7 5 (.boolean) := ⟨RX7, TX7, 6, "SegmentedCache$Thing", rfl, by decide, Or.inl ⟨Or.inl q1904, rfl⟩, Or.inl rfl, by decide +kernel⟩
theorem cl_X8_10 : jCL RX8 10 "SegmentedCache$Key" := q1325
theorem fl_X8_9_X8 : jFL RX8 9 8 0 := ⟨RX8, TX8, 2, "SegmentedCache$Key", rfl, by decide, Or.inl q2003, Or.inl rfl⟩
theorem fl_X8_15_X8 : jFL RX8 15 8 1 := ⟨RX8, TX8, 2, "SegmentedCache$Key", rfl, by decide, Or.inl q2004, Or.inl rfl⟩
theorem lk_X8_3 : Cond.methodLink RX8 3 objectInit ∈ lw_all := q2002
theorem pl_X8_9_X8 : jPL RX8 "<init>" 9 8 0 (.int) := ⟨RX8, TX8, 2, "SegmentedCache$Key", rfl, by decide, Or.inr ⟨q2003, rfl, rfl, rfl⟩, Or.inl rfl, by decide +kernel⟩
theorem pl_X8_15_X8 : jPL RX8 "<init>" 15 8 1 (.int) := ⟨RX8, TX8, 2, "SegmentedCache$Key", rfl, by decide, Or.inr ⟨q2004, rfl, rfl, rfl⟩, Or.inl rfl, by decide +kernel⟩
theorem lk_X9_3 : Cond.methodLink RX9 3 objectInit ∈ lw_all := q2255
theorem cl_X9_9 : jCL RX9 9 "java/util/LinkedList" := q2256
theorem lk_X9_11 : jLkI RX9 11 yJ7_init 0 := ⟨rfl, q2257, q392, ⟨by decide, by decide⟩, jNp_of (by decide +kernel)⟩
theorem fl_X9_12_X9 : jFL RX9 12 9 3 := ⟨RX9, TX9, 4, "SegmentedCache$Reader", rfl, by decide, Or.inl q2261, Or.inl rfl⟩
theorem pl_X9_12_X9 : jPL RX9 "<init>" 12 9 3 (.object "java/util/LinkedList") := ⟨RX9, TX9, 4, "SegmentedCache$Reader", rfl, by decide, Or.inr ⟨q2261, rfl, rfl, rfl⟩, Or.inl rfl, by decide +kernel⟩
theorem fl_X9_18_X9 : jFL RX9 18 9 0 := ⟨RX9, TX9, 4, "SegmentedCache$Reader", rfl, by decide, Or.inl q2258, Or.inl rfl⟩
theorem pl_X9_18_X9 : jPL RX9 "<init>" 18 9 0 (.array (.byte)) := ⟨RX9, TX9, 4, "SegmentedCache$Reader", rfl, by decide, Or.inr ⟨q2258, rfl, rfl, rfl⟩, Or.inl rfl, by decide +kernel⟩
theorem fl_X9_22_X9 : jFL RX9 22 9 1 := ⟨RX9, TX9, 4, "SegmentedCache$Reader", rfl, by decide, Or.inl q2259, Or.inl rfl⟩
theorem pl_X9_22_X9 : jPL RX9 "<init>" 22 9 1 (.int) := ⟨RX9, TX9, 4, "SegmentedCache$Reader", rfl, by decide, Or.inr ⟨q2259, rfl, rfl, rfl⟩, Or.inl rfl, by decide +kernel⟩
theorem lk_X9_63_X9 : jLkV RX9 63 yX9_clause RX9 0 := ⟨q2275, q2277, qs31, ⟨by decide, by decide⟩, jNp_of (by decide +kernel)⟩
abbrev wX9_clause : List Cond := ws_ yX9_clause cX9_clause 3 ((Option.some (.object "SegmentedCache$Clause")))
theorem ce_X9_clause : jCe yX9_clause cX9_clause 3 ((Option.some (.object "SegmentedCache$Clause"))) := ⟨q2278, q120, by decide⟩
theorem st_X9_clause {K : JK} {l : Launch} {lv : Nat} {av : List Value} {h0 : JIH} {QR : JQR} {QX : JQX} (F : JF K) {ls : List (Option Value)} (hls : jent av 3 = ls) (hn : (jsl av).length ≤ 3 := by first | exact Nat.le_of_ble_eq_true rfl | (simp [jsl, jcat_v]; done)) (body : ∀ M : JM, JX M K l cX9_clause RX9 3 ((Option.some (.object "SegmentedCache$Clause"))) "clause" [] lv h0 QR QX → J M h0 0 ls []) : Ct K l yX9_clause wX9_clause lv av h0 QR QX := Ct.start F (by decide +kernel) hn hls body
theorem lk_X9_67_J7 : jLkV RX9 67 yJ7_add RJ7 1 := ⟨q2339, q2340, q2341, ⟨by decide, by decide⟩, jNp_of (by decide +kernel)⟩
theorem lk_X9_71_J7 : jLkV RX9 71 yJ7_size RJ7 0 := ⟨q2368, q600, q3029, ⟨by decide, by decide⟩, jNp_of (by decide +kernel)⟩
theorem lk_X9_29_X9 : jLkV RX9 29 yX9_here RX9 0 := ⟨q2279, q2281, qs32, ⟨by decide, by decide⟩, jNp_of (by decide +kernel)⟩
abbrev wX9_here : List Cond := ws_ yX9_here cX9_here 1 ((some .int))
theorem ce_X9_here : jCe yX9_here cX9_here 1 ((some .int)) := ⟨q2282, q120, by decide⟩
theorem st_X9_here {K : JK} {l : Launch} {lv : Nat} {av : List Value} {h0 : JIH} {QR : JQR} {QX : JQX} (F : JF K) {ls : List (Option Value)} (hls : jent av 1 = ls) (hn : (jsl av).length ≤ 1 := by first | exact Nat.le_of_ble_eq_true rfl | (simp [jsl, jcat_v]; done)) (body : ∀ M : JM, JX M K l cX9_here RX9 1 ((some .int)) "here" [] lv h0 QR QX → J M h0 0 ls []) : Ct K l yX9_here wX9_here lv av h0 QR QX := Ct.start F (by decide +kernel) hn hls body
theorem fl_X9_26_X9 : jFL RX9 26 9 2 := ⟨RX9, TX9, 4, "SegmentedCache$Reader", rfl, by decide, Or.inl q2260, Or.inl rfl⟩
theorem pl_X9_26_X9 (nm : String) : jPL RX9 nm 26 9 2 (.int) := ⟨RX9, TX9, 4, "SegmentedCache$Reader", rfl, by decide, Or.inl ⟨Or.inl q2260, rfl⟩, Or.inl rfl, by decide +kernel⟩
theorem cl_X9_37 : jCL RX9 37 "SegmentedCache$Off" := q2294
theorem lk_X9_39 : jLkI RX9 39 yX11_init 1 := ⟨rfl, q2303, q2304, ⟨by decide, by decide⟩, jNp_of (by decide +kernel)⟩
theorem cl_X9_51 : jCL RX9 51 "SegmentedCache$Clause" := q2283
theorem lk_X9_53_X9 : jLkV RX9 53 yX9_key RX9 0 := ⟨q2285, q2287, qs33, ⟨by decide, by decide⟩, jNp_of (by decide +kernel)⟩
abbrev wX9_key : List Cond := ws_ yX9_key cX9_key 3 ((Option.some (.object "SegmentedCache$Key")))
theorem ce_X9_key : jCe yX9_key cX9_key 3 ((Option.some (.object "SegmentedCache$Key"))) := ⟨q2288, q120, by decide⟩
theorem st_X9_key {K : JK} {l : Launch} {lv : Nat} {av : List Value} {h0 : JIH} {QR : JQR} {QX : JQX} (F : JF K) {ls : List (Option Value)} (hls : jent av 3 = ls) (hn : (jsl av).length ≤ 3 := by first | exact Nat.le_of_ble_eq_true rfl | (simp [jsl, jcat_v]; done)) (body : ∀ M : JM, JX M K l cX9_key RX9 3 ((Option.some (.object "SegmentedCache$Key"))) "key" [] lv h0 QR QX → J M h0 0 ls []) : Ct K l yX9_key wX9_key lv av h0 QR QX := Ct.start F (by decide +kernel) hn hls body
theorem lk_X9_57 : jLkI RX9 57 yX10_init 2 := ⟨rfl, q2315, q2316, ⟨by decide, by decide⟩, jNp_of (by decide +kernel)⟩
abbrev wX10_init : List Cond := ws_ yX10_init cX10_init 3 (none)
theorem ce_X10_init : jCe yX10_init cX10_init 3 (none) := ⟨q2317, q121, by decide⟩
theorem st_X10_init {K : JK} {l : Launch} {lv : Nat} {av : List Value} {h0 : JIH} {QR : JQR} {QX : JQX} (F : JF K) {ls : List (Option Value)} (hls : jent av 3 = ls) (hn : (jsl av).length ≤ 3 := by first | exact Nat.le_of_ble_eq_true rfl | (simp [jsl, jcat_v]; done)) (body : ∀ M : JM, JX M K l cX10_init RX10 3 (none) "<init>" [] lv h0 QR QX → J M h0 0 ls []) : Ct K l yX10_init wX10_init lv av h0 QR QX := Ct.start F (by decide +kernel) hn hls body
theorem lk_X9_42_X9 : jLkV RX9 42 yX9_next RX9 2 := ⟨q2289, q2291, qs34, ⟨by decide, by decide⟩, jNp_of (by decide +kernel)⟩
abbrev wX9_next : List Cond := ws_ yX9_next cX9_next 3 ((some .int))
theorem ce_X9_next : jCe yX9_next cX9_next 3 ((some .int)) := ⟨q2292, q120, by decide⟩
theorem st_X9_next {K : JK} {l : Launch} {lv : Nat} {av : List Value} {h0 : JIH} {QR : JQR} {QX : JQX} (F : JF K) {ls : List (Option Value)} (hls : jent av 3 = ls) (hn : (jsl av).length ≤ 3 := by first | exact Nat.le_of_ble_eq_true rfl | (simp [jsl, jcat_v]; done)) (body : ∀ M : JM, JX M K l cX9_next RX9 3 ((some .int)) "next" [] lv h0 QR QX → J M h0 0 ls []) : Ct K l yX9_next wX9_next lv av h0 QR QX := Ct.start F (by decide +kernel) hn hls body
theorem lk_X9_60 : jLkI RX9 60 yX10_init_2 3 := ⟨rfl, q2338, q2319, ⟨by decide, by decide⟩, jNp_of (by decide +kernel)⟩
abbrev wX10_init_2 : List Cond := ws_ yX10_init_2 cX10_init_2 4 (none)
theorem ce_X10_init_2 : jCe yX10_init_2 cX10_init_2 4 (none) := ⟨q2320, q121, by decide⟩
theorem st_X10_init_2 {K : JK} {l : Launch} {lv : Nat} {av : List Value} {h0 : JIH} {QR : JQR} {QX : JQX} (F : JF K) {ls : List (Option Value)} (hls : jent av 4 = ls) (hn : (jsl av).length ≤ 4 := by first | exact Nat.le_of_ble_eq_true rfl | (simp [jsl, jcat_v]; done)) (body : ∀ M : JM, JX M K l cX10_init_2 RX10 4 (none) "<init>" [] lv h0 QR QX → J M h0 0 ls []) : Ct K l yX10_init_2 wX10_init_2 lv av h0 QR QX := Ct.start F (by decide +kernel) hn hls body
theorem lk_X9_33 : jLkSN RX9 33 yX0_in 3 := ⟨⟨_, q2293⟩, q485, ⟨by decide, by decide⟩, jNp_of (by decide +kernel)⟩
theorem cl_X9_46 : jCL RX9 46 "SegmentedCache$Key" := q2313
theorem lk_X9_48 : jLkI RX9 48 yX8_init 2 := ⟨rfl, q2314, q2000, ⟨by decide, by decide⟩, jNp_of (by decide +kernel)⟩
theorem lk_X10_20 : jLkI RX10 20 yX10_init_2 3 := ⟨rfl, q2318, q2319, ⟨by decide, by decide⟩, jNp_of (by decide +kernel)⟩
theorem lk_X10_1 : Cond.methodLink RX10 1 objectInit ∈ lw_all := q2321
theorem fl_X10_7_X10 : jFL RX10 7 10 0 := ⟨RX10, TX10, 3, "SegmentedCache$Clause", rfl, by decide, Or.inl q2322, Or.inl rfl⟩
theorem pl_X10_7_X10 : jPL RX10 "<init>" 7 10 0 (.int) := ⟨RX10, TX10, 3, "SegmentedCache$Clause", rfl, by decide, Or.inr ⟨q2322, rfl, rfl, rfl⟩, Or.inl rfl, by decide +kernel⟩
theorem fl_X10_13_X10 : jFL RX10 13 10 2 := ⟨RX10, TX10, 3, "SegmentedCache$Clause", rfl, by decide, Or.inl q2328, Or.inl rfl⟩
theorem pl_X10_13_X10 : jPL RX10 "<init>" 13 10 2 (.object "SegmentedCache$Key") := ⟨RX10, TX10, 3, "SegmentedCache$Clause", rfl, by decide, Or.inr ⟨q2328, rfl, rfl, rfl⟩, Or.inl rfl, by decide +kernel⟩
theorem fl_X10_17_X10 : jFL RX10 17 10 1 := ⟨RX10, TX10, 3, "SegmentedCache$Clause", rfl, by decide, Or.inl q2325, Or.inl rfl⟩
theorem pl_X10_17_X10 : jPL RX10 "<init>" 17 10 1 (.int) := ⟨RX10, TX10, 3, "SegmentedCache$Clause", rfl, by decide, Or.inr ⟨q2325, rfl, rfl, rfl⟩, Or.inl rfl, by decide +kernel⟩
theorem lk_X11_1 : jLkI RX11 1 yJ16_init 0 := ⟨rfl, q2306, q749, ⟨by decide, by decide⟩, jNp_of (by decide +kernel)⟩
theorem fl_X11_7_X11 : jFL RX11 7 11 6 := ⟨RX11, TX11, 7, "SegmentedCache$Off", rfl, by decide, Or.inl q2307, Or.inl rfl⟩
theorem pl_X11_7_X11 : jPL RX11 "<init>" 7 11 6 (.int) := ⟨RX11, TX11, 7, "SegmentedCache$Off", rfl, by decide, Or.inr ⟨q2307, rfl, rfl, rfl⟩, Or.inl rfl, by decide +kernel⟩
theorem cl_L_7 : jCL RL_law 7 "SegmentedCache" := q132
theorem lk_L_9 : jLkI RL_law 9 yX0_init 0 := ⟨rfl, q134, q135, ⟨by decide, by decide⟩, jNp_of (by decide +kernel)⟩
abbrev wX0_init : List Cond := ws_ yX0_init cX0_init 2 (none)
theorem ce_X0_init : jCe yX0_init cX0_init 2 (none) := ⟨q136, q69, by decide⟩
theorem st_X0_init {K : JK} {l : Launch} {lv : Nat} {av : List Value} {h0 : JIH} {QR : JQR} {QX : JQX} (F : JF K) {ls : List (Option Value)} (hls : jent av 2 = ls) (hn : (jsl av).length ≤ 2 := by first | exact Nat.le_of_ble_eq_true rfl | (simp [jsl, jcat_v]; done)) (body : ∀ M : JM, JX M K l cX0_init RX0 2 (none) "<init>" [] lv h0 QR QX → J M h0 0 ls []) : Ct K l yX0_init wX0_init lv av h0 QR QX := Ct.start F (by decide +kernel) hn hls body
theorem cl_L_10 : jCL RL_law 10 "SegmentedCacheModel" := q2731
theorem lk_L_12 : jLkI RL_law 12 yX5_init 0 := ⟨rfl, q2733, q2734, ⟨by decide, by decide⟩, jNp_of (by decide +kernel)⟩
abbrev wX5_init : List Cond := ws_ yX5_init cX5_init 2 (none)
theorem ce_X5_init : jCe yX5_init cX5_init 2 (none) := ⟨q2735, q82, by decide⟩
theorem st_X5_init {K : JK} {l : Launch} {lv : Nat} {av : List Value} {h0 : JIH} {QR : JQR} {QX : JQX} (F : JF K) {ls : List (Option Value)} (hls : jent av 2 = ls) (hn : (jsl av).length ≤ 2 := by first | exact Nat.le_of_ble_eq_true rfl | (simp [jsl, jcat_v]; done)) (body : ∀ M : JM, JX M K l cX5_init RX5 2 (none) "<init>" [] lv h0 QR QX → J M h0 0 ls []) : Ct K l yX5_init wX5_init lv av h0 QR QX := Ct.start F (by decide +kernel) hn hls body
theorem lk_L_13_X0 : jLkV RL_law 13 yX0_set RX0 2 := ⟨q480, q481, q482, ⟨by decide, by decide⟩, jNp_of (by decide +kernel)⟩
abbrev wX0_set : List Cond := ws_ yX0_set cX0_set 4 ((some .int))
theorem ce_X0_set : jCe yX0_set cX0_set 4 ((some .int)) := ⟨q483, q69, by decide⟩
theorem st_X0_set {K : JK} {l : Launch} {lv : Nat} {av : List Value} {h0 : JIH} {QR : JQR} {QX : JQX} (F : JF K) {ls : List (Option Value)} (hls : jent av 4 = ls) (hn : (jsl av).length ≤ 4 := by first | exact Nat.le_of_ble_eq_true rfl | (simp [jsl, jcat_v]; done)) (body : ∀ M : JM, JX M K l cX0_set RX0 4 ((some .int)) "set" [] lv h0 QR QX → J M h0 0 ls []) : Ct K l yX0_set wX0_set lv av h0 QR QX := Ct.start F (by decide +kernel) hn hls body
theorem lk_L_17_X5 : jLkV RL_law 17 yX5_set RX5 2 := ⟨q2797, q2798, q2799, ⟨by decide, by decide⟩, jNp_of (by decide +kernel)⟩
abbrev wX5_set : List Cond := ws_ yX5_set cX5_set 5 ((some .int))
theorem ce_X5_set : jCe yX5_set cX5_set 5 ((some .int)) := ⟨q2800, q82, by decide⟩
theorem st_X5_set {K : JK} {l : Launch} {lv : Nat} {av : List Value} {h0 : JIH} {QR : JQR} {QX : JQX} (F : JF K) {ls : List (Option Value)} (hls : jent av 5 = ls) (hn : (jsl av).length ≤ 5 := by first | exact Nat.le_of_ble_eq_true rfl | (simp [jsl, jcat_v]; done)) (body : ∀ M : JM, JX M K l cX5_set RX5 5 ((some .int)) "set" [] lv h0 QR QX → J M h0 0 ls []) : Ct K l yX5_set wX5_set lv av h0 QR QX := Ct.start F (by decide +kernel) hn hls body
theorem lk_L_18_X0 : jLkV RL_law 18 yX0_told RX0 1 := ⟨q1983, q1984, q1985, ⟨by decide, by decide⟩, jNp_of (by decide +kernel)⟩
abbrev wX0_told : List Cond := ws_ yX0_told cX0_told 2 ((some .int))
theorem ce_X0_told : jCe yX0_told cX0_told 2 ((some .int)) := ⟨q1986, q69, by decide⟩
theorem st_X0_told {K : JK} {l : Launch} {lv : Nat} {av : List Value} {h0 : JIH} {QR : JQR} {QX : JQX} (F : JF K) {ls : List (Option Value)} (hls : jent av 2 = ls) (hn : (jsl av).length ≤ 2 := by first | exact Nat.le_of_ble_eq_true rfl | (simp [jsl, jcat_v]; done)) (body : ∀ M : JM, JX M K l cX0_told RX0 2 ((some .int)) "told" [] lv h0 QR QX → J M h0 0 ls []) : Ct K l yX0_told wX0_told lv av h0 QR QX := Ct.start F (by decide +kernel) hn hls body
theorem lk_L_22_X5 : jLkV RL_law 22 yX5_told RX5 1 := ⟨q2832, q2833, q2834, ⟨by decide, by decide⟩, jNp_of (by decide +kernel)⟩
abbrev wX5_told : List Cond := ws_ yX5_told cX5_told 2 ((some .int))
theorem ce_X5_told : jCe yX5_told cX5_told 2 ((some .int)) := ⟨q2835, q82, by decide⟩
theorem st_X5_told {K : JK} {l : Launch} {lv : Nat} {av : List Value} {h0 : JIH} {QR : JQR} {QX : JQX} (F : JF K) {ls : List (Option Value)} (hls : jent av 2 = ls) (hn : (jsl av).length ≤ 2 := by first | exact Nat.le_of_ble_eq_true rfl | (simp [jsl, jcat_v]; done)) (body : ∀ M : JM, JX M K l cX5_told RX5 2 ((some .int)) "told" [] lv h0 QR QX → J M h0 0 ls []) : Ct K l yX5_told wX5_told lv av h0 QR QX := Ct.start F (by decide +kernel) hn hls body
theorem lk_L_23_X0 : jLkV RL_law 23 yX0_put RX0 5 := ⟨q1991, q1992, q1993, ⟨by decide, by decide⟩, jNp_of (by decide +kernel)⟩
abbrev wX0_put : List Cond := ws_ yX0_put cX0_put 6 ((some .int))
theorem ce_X0_put : jCe yX0_put cX0_put 6 ((some .int)) := ⟨q1994, q69, by decide⟩
theorem st_X0_put {K : JK} {l : Launch} {lv : Nat} {av : List Value} {h0 : JIH} {QR : JQR} {QX : JQX} (F : JF K) {ls : List (Option Value)} (hls : jent av 6 = ls) (hn : (jsl av).length ≤ 6 := by first | exact Nat.le_of_ble_eq_true rfl | (simp [jsl, jcat_v]; done)) (body : ∀ M : JM, JX M K l cX0_put RX0 6 ((some .int)) "put" [] lv h0 QR QX → J M h0 0 ls []) : Ct K l yX0_put wX0_put lv av h0 QR QX := Ct.start F (by decide +kernel) hn hls body
theorem lk_L_27_X5 : jLkV RL_law 27 yX5_put RX5 5 := ⟨q2836, q2837, q2838, ⟨by decide, by decide⟩, jNp_of (by decide +kernel)⟩
abbrev wX5_put : List Cond := ws_ yX5_put cX5_put 6 ((some .int))
theorem ce_X5_put : jCe yX5_put cX5_put 6 ((some .int)) := ⟨q2839, q82, by decide⟩
theorem st_X5_put {K : JK} {l : Launch} {lv : Nat} {av : List Value} {h0 : JIH} {QR : JQR} {QX : JQX} (F : JF K) {ls : List (Option Value)} (hls : jent av 6 = ls) (hn : (jsl av).length ≤ 6 := by first | exact Nat.le_of_ble_eq_true rfl | (simp [jsl, jcat_v]; done)) (body : ∀ M : JM, JX M K l cX5_put RX5 6 ((some .int)) "put" [] lv h0 QR QX → J M h0 0 ls []) : Ct K l yX5_put wX5_put lv av h0 QR QX := Ct.start F (by decide +kernel) hn hls body
theorem lk_L_28_X0 : jLkV RL_law 28 yX0_get RX0 2 := ⟨q2065, q2066, q2067, ⟨by decide, by decide⟩, jNp_of (by decide +kernel)⟩
abbrev wX0_get : List Cond := ws_ yX0_get cX0_get 4 ((some .long))
theorem ce_X0_get : jCe yX0_get cX0_get 4 ((some .long)) := ⟨q2068, q69, by decide⟩
theorem st_X0_get {K : JK} {l : Launch} {lv : Nat} {av : List Value} {h0 : JIH} {QR : JQR} {QX : JQX} (F : JF K) {ls : List (Option Value)} (hls : jent av 4 = ls) (hn : (jsl av).length ≤ 4 := by first | exact Nat.le_of_ble_eq_true rfl | (simp [jsl, jcat_v]; done)) (body : ∀ M : JM, JX M K l cX0_get RX0 4 ((some .long)) "get" [] lv h0 QR QX → J M h0 0 ls []) : Ct K l yX0_get wX0_get lv av h0 QR QX := Ct.start F (by decide +kernel) hn hls body
theorem lk_L_32_X5 : jLkV RL_law 32 yX5_get RX5 2 := ⟨q2855, q2856, q2857, ⟨by decide, by decide⟩, jNp_of (by decide +kernel)⟩
abbrev wX5_get : List Cond := ws_ yX5_get cX5_get 5 ((some .long))
theorem ce_X5_get : jCe yX5_get cX5_get 5 ((some .long)) := ⟨q2858, q82, by decide⟩
theorem st_X5_get {K : JK} {l : Launch} {lv : Nat} {av : List Value} {h0 : JIH} {QR : JQR} {QX : JQX} (F : JF K) {ls : List (Option Value)} (hls : jent av 5 = ls) (hn : (jsl av).length ≤ 5 := by first | exact Nat.le_of_ble_eq_true rfl | (simp [jsl, jcat_v]; done)) (body : ∀ M : JM, JX M K l cX5_get RX5 5 ((some .long)) "get" [] lv h0 QR QX → J M h0 0 ls []) : Ct K l yX5_get wX5_get lv av h0 QR QX := Ct.start F (by decide +kernel) hn hls body
theorem lk_L_33_X0 : jLkV RL_law 33 yX0_drop RX0 2 := ⟨q2074, q2075, q2076, ⟨by decide, by decide⟩, jNp_of (by decide +kernel)⟩
abbrev wX0_drop : List Cond := ws_ yX0_drop cX0_drop 3 ((some .int))
theorem ce_X0_drop : jCe yX0_drop cX0_drop 3 ((some .int)) := ⟨q2077, q69, by decide⟩
theorem st_X0_drop {K : JK} {l : Launch} {lv : Nat} {av : List Value} {h0 : JIH} {QR : JQR} {QX : JQX} (F : JF K) {ls : List (Option Value)} (hls : jent av 3 = ls) (hn : (jsl av).length ≤ 3 := by first | exact Nat.le_of_ble_eq_true rfl | (simp [jsl, jcat_v]; done)) (body : ∀ M : JM, JX M K l cX0_drop RX0 3 ((some .int)) "drop" [] lv h0 QR QX → J M h0 0 ls []) : Ct K l yX0_drop wX0_drop lv av h0 QR QX := Ct.start F (by decide +kernel) hn hls body
theorem lk_L_36_X5 : jLkV RL_law 36 yX5_drop RX5 2 := ⟨q2868, q2869, q2870, ⟨by decide, by decide⟩, jNp_of (by decide +kernel)⟩
abbrev wX5_drop : List Cond := ws_ yX5_drop cX5_drop 3 ((some .int))
theorem ce_X5_drop : jCe yX5_drop cX5_drop 3 ((some .int)) := ⟨q2871, q82, by decide⟩
theorem st_X5_drop {K : JK} {l : Launch} {lv : Nat} {av : List Value} {h0 : JIH} {QR : JQR} {QX : JQX} (F : JF K) {ls : List (Option Value)} (hls : jent av 3 = ls) (hn : (jsl av).length ≤ 3 := by first | exact Nat.le_of_ble_eq_true rfl | (simp [jsl, jcat_v]; done)) (body : ∀ M : JM, JX M K l cX5_drop RX5 3 ((some .int)) "drop" [] lv h0 QR QX → J M h0 0 ls []) : Ct K l yX5_drop wX5_drop lv av h0 QR QX := Ct.start F (by decide +kernel) hn hls body
theorem lk_L_37_X0 : jLkV RL_law 37 yX0_pin RX0 3 := ⟨q2082, q2083, q2084, ⟨by decide, by decide⟩, jNp_of (by decide +kernel)⟩
abbrev wX0_pin : List Cond := ws_ yX0_pin cX0_pin 6 ((some .int))
theorem ce_X0_pin : jCe yX0_pin cX0_pin 6 ((some .int)) := ⟨q2085, q69, by decide⟩
theorem st_X0_pin {K : JK} {l : Launch} {lv : Nat} {av : List Value} {h0 : JIH} {QR : JQR} {QX : JQX} (F : JF K) {ls : List (Option Value)} (hls : jent av 6 = ls) (hn : (jsl av).length ≤ 6 := by first | exact Nat.le_of_ble_eq_true rfl | (simp [jsl, jcat_v]; done)) (body : ∀ M : JM, JX M K l cX0_pin RX0 6 ((some .int)) "pin" [] lv h0 QR QX → J M h0 0 ls []) : Ct K l yX0_pin wX0_pin lv av h0 QR QX := Ct.start F (by decide +kernel) hn hls body
theorem lk_L_41_X5 : jLkV RL_law 41 yX5_pin RX5 3 := ⟨q2876, q2877, q2878, ⟨by decide, by decide⟩, jNp_of (by decide +kernel)⟩
abbrev wX5_pin : List Cond := ws_ yX5_pin cX5_pin 6 ((some .int))
theorem ce_X5_pin : jCe yX5_pin cX5_pin 6 ((some .int)) := ⟨q2879, q82, by decide⟩
theorem st_X5_pin {K : JK} {l : Launch} {lv : Nat} {av : List Value} {h0 : JIH} {QR : JQR} {QX : JQX} (F : JF K) {ls : List (Option Value)} (hls : jent av 6 = ls) (hn : (jsl av).length ≤ 6 := by first | exact Nat.le_of_ble_eq_true rfl | (simp [jsl, jcat_v]; done)) (body : ∀ M : JM, JX M K l cX5_pin RX5 6 ((some .int)) "pin" [] lv h0 QR QX → J M h0 0 ls []) : Ct K l yX5_pin wX5_pin lv av h0 QR QX := Ct.start F (by decide +kernel) hn hls body
theorem lk_L_42_X0 : jLkV RL_law 42 yX0_of RX0 3 := ⟨q2087, q2088, q2089, ⟨by decide, by decide⟩, jNp_of (by decide +kernel)⟩
abbrev wX0_of : List Cond := ws_ yX0_of cX0_of 6 ((some .int))
theorem ce_X0_of : jCe yX0_of cX0_of 6 ((some .int)) := ⟨q2090, q69, by decide⟩
theorem st_X0_of {K : JK} {l : Launch} {lv : Nat} {av : List Value} {h0 : JIH} {QR : JQR} {QX : JQX} (F : JF K) {ls : List (Option Value)} (hls : jent av 6 = ls) (hn : (jsl av).length ≤ 6 := by first | exact Nat.le_of_ble_eq_true rfl | (simp [jsl, jcat_v]; done)) (body : ∀ M : JM, JX M K l cX0_of RX0 6 ((some .int)) "of" [] lv h0 QR QX → J M h0 0 ls []) : Ct K l yX0_of wX0_of lv av h0 QR QX := Ct.start F (by decide +kernel) hn hls body
theorem lk_L_46_X5 : jLkV RL_law 46 yX5_of RX5 3 := ⟨q2880, q2881, q2882, ⟨by decide, by decide⟩, jNp_of (by decide +kernel)⟩
abbrev wX5_of : List Cond := ws_ yX5_of cX5_of 6 ((some .int))
theorem ce_X5_of : jCe yX5_of cX5_of 6 ((some .int)) := ⟨q2883, q82, by decide⟩
theorem st_X5_of {K : JK} {l : Launch} {lv : Nat} {av : List Value} {h0 : JIH} {QR : JQR} {QX : JQX} (F : JF K) {ls : List (Option Value)} (hls : jent av 6 = ls) (hn : (jsl av).length ≤ 6 := by first | exact Nat.le_of_ble_eq_true rfl | (simp [jsl, jcat_v]; done)) (body : ∀ M : JM, JX M K l cX5_of RX5 6 ((some .int)) "of" [] lv h0 QR QX → J M h0 0 ls []) : Ct K l yX5_of wX5_of lv av h0 QR QX := Ct.start F (by decide +kernel) hn hls body
theorem lk_L_47_X0 : jLkV RL_law 47 yX0_key RX0 2 := ⟨q2124, q2125, q2126, ⟨by decide, by decide⟩, jNp_of (by decide +kernel)⟩
abbrev wX0_key : List Cond := ws_ yX0_key cX0_key 3 ((some .int))
theorem ce_X0_key : jCe yX0_key cX0_key 3 ((some .int)) := ⟨q2127, q69, by decide⟩
theorem st_X0_key {K : JK} {l : Launch} {lv : Nat} {av : List Value} {h0 : JIH} {QR : JQR} {QX : JQX} (F : JF K) {ls : List (Option Value)} (hls : jent av 3 = ls) (hn : (jsl av).length ≤ 3 := by first | exact Nat.le_of_ble_eq_true rfl | (simp [jsl, jcat_v]; done)) (body : ∀ M : JM, JX M K l cX0_key RX0 3 ((some .int)) "key" [] lv h0 QR QX → J M h0 0 ls []) : Ct K l yX0_key wX0_key lv av h0 QR QX := Ct.start F (by decide +kernel) hn hls body
theorem lk_L_50_X5 : jLkV RL_law 50 yX5_key RX5 2 := ⟨q2888, q2889, q2890, ⟨by decide, by decide⟩, jNp_of (by decide +kernel)⟩
abbrev wX5_key : List Cond := ws_ yX5_key cX5_key 3 ((some .int))
theorem ce_X5_key : jCe yX5_key cX5_key 3 ((some .int)) := ⟨q2891, q82, by decide⟩
theorem st_X5_key {K : JK} {l : Launch} {lv : Nat} {av : List Value} {h0 : JIH} {QR : JQR} {QX : JQX} (F : JF K) {ls : List (Option Value)} (hls : jent av 3 = ls) (hn : (jsl av).length ≤ 3 := by first | exact Nat.le_of_ble_eq_true rfl | (simp [jsl, jcat_v]; done)) (body : ∀ M : JM, JX M K l cX5_key RX5 3 ((some .int)) "key" [] lv h0 QR QX → J M h0 0 ls []) : Ct K l yX5_key wX5_key lv av h0 QR QX := Ct.start F (by decide +kernel) hn hls body
theorem lk_L_51_X0 : jLkV RL_law 51 yX0_gone RX0 1 := ⟨q2136, q2137, q2138, ⟨by decide, by decide⟩, jNp_of (by decide +kernel)⟩
abbrev wX0_gone : List Cond := ws_ yX0_gone cX0_gone 2 ((some .int))
theorem ce_X0_gone : jCe yX0_gone cX0_gone 2 ((some .int)) := ⟨q2139, q69, by decide⟩
theorem st_X0_gone {K : JK} {l : Launch} {lv : Nat} {av : List Value} {h0 : JIH} {QR : JQR} {QX : JQX} (F : JF K) {ls : List (Option Value)} (hls : jent av 2 = ls) (hn : (jsl av).length ≤ 2 := by first | exact Nat.le_of_ble_eq_true rfl | (simp [jsl, jcat_v]; done)) (body : ∀ M : JM, JX M K l cX0_gone RX0 2 ((some .int)) "gone" [] lv h0 QR QX → J M h0 0 ls []) : Ct K l yX0_gone wX0_gone lv av h0 QR QX := Ct.start F (by decide +kernel) hn hls body
theorem lk_L_54_X5 : jLkV RL_law 54 yX5_gone RX5 1 := ⟨q2896, q2897, q2898, ⟨by decide, by decide⟩, jNp_of (by decide +kernel)⟩
abbrev wX5_gone : List Cond := ws_ yX5_gone cX5_gone 2 ((some .int))
theorem ce_X5_gone : jCe yX5_gone cX5_gone 2 ((some .int)) := ⟨q2899, q82, by decide⟩
theorem st_X5_gone {K : JK} {l : Launch} {lv : Nat} {av : List Value} {h0 : JIH} {QR : JQR} {QX : JQX} (F : JF K) {ls : List (Option Value)} (hls : jent av 2 = ls) (hn : (jsl av).length ≤ 2 := by first | exact Nat.le_of_ble_eq_true rfl | (simp [jsl, jcat_v]; done)) (body : ∀ M : JM, JX M K l cX5_gone RX5 2 ((some .int)) "gone" [] lv h0 QR QX → J M h0 0 ls []) : Ct K l yX5_gone wX5_gone lv av h0 QR QX := Ct.start F (by decide +kernel) hn hls body
theorem lk_L_55_X0 : jLkV RL_law 55 yX0_victim RX0 1 := ⟨q2172, q2173, q2174, ⟨by decide, by decide⟩, jNp_of (by decide +kernel)⟩
abbrev wX0_victim : List Cond := ws_ yX0_victim cX0_victim 2 ((some .int))
theorem ce_X0_victim : jCe yX0_victim cX0_victim 2 ((some .int)) := ⟨q2175, q69, by decide⟩
theorem st_X0_victim {K : JK} {l : Launch} {lv : Nat} {av : List Value} {h0 : JIH} {QR : JQR} {QX : JQX} (F : JF K) {ls : List (Option Value)} (hls : jent av 2 = ls) (hn : (jsl av).length ≤ 2 := by first | exact Nat.le_of_ble_eq_true rfl | (simp [jsl, jcat_v]; done)) (body : ∀ M : JM, JX M K l cX0_victim RX0 2 ((some .int)) "victim" [] lv h0 QR QX → J M h0 0 ls []) : Ct K l yX0_victim wX0_victim lv av h0 QR QX := Ct.start F (by decide +kernel) hn hls body
theorem lk_L_58_X5 : jLkV RL_law 58 yX5_victim RX5 1 := ⟨q2900, q2901, q2902, ⟨by decide, by decide⟩, jNp_of (by decide +kernel)⟩
abbrev wX5_victim : List Cond := ws_ yX5_victim cX5_victim 3 ((some .int))
theorem ce_X5_victim : jCe yX5_victim cX5_victim 3 ((some .int)) := ⟨q2903, q82, by decide⟩
theorem st_X5_victim {K : JK} {l : Launch} {lv : Nat} {av : List Value} {h0 : JIH} {QR : JQR} {QX : JQX} (F : JF K) {ls : List (Option Value)} (hls : jent av 3 = ls) (hn : (jsl av).length ≤ 3 := by first | exact Nat.le_of_ble_eq_true rfl | (simp [jsl, jcat_v]; done)) (body : ∀ M : JM, JX M K l cX5_victim RX5 3 ((some .int)) "victim" [] lv h0 QR QX → J M h0 0 ls []) : Ct K l yX5_victim wX5_victim lv av h0 QR QX := Ct.start F (by decide +kernel) hn hls body
theorem lk_L_59_X0 : jLkV RL_law 59 yX0_feed RX0 1 := ⟨q2240, q2241, q2242, ⟨by decide, by decide⟩, jNp_of (by decide +kernel)⟩
abbrev wX0_feed : List Cond := ws_ yX0_feed cX0_feed 2 ((some .int))
theorem ce_X0_feed : jCe yX0_feed cX0_feed 2 ((some .int)) := ⟨q2243, q69, by decide⟩
theorem st_X0_feed {K : JK} {l : Launch} {lv : Nat} {av : List Value} {h0 : JIH} {QR : JQR} {QX : JQX} (F : JF K) {ls : List (Option Value)} (hls : jent av 2 = ls) (hn : (jsl av).length ≤ 2 := by first | exact Nat.le_of_ble_eq_true rfl | (simp [jsl, jcat_v]; done)) (body : ∀ M : JM, JX M K l cX0_feed RX0 2 ((some .int)) "feed" [] lv h0 QR QX → J M h0 0 ls []) : Ct K l yX0_feed wX0_feed lv av h0 QR QX := Ct.start F (by decide +kernel) hn hls body
theorem lk_L_62_X5 : jLkV RL_law 62 yX5_feed RX5 1 := ⟨q2907, q2908, q2909, ⟨by decide, by decide⟩, jNp_of (by decide +kernel)⟩
abbrev wX5_feed : List Cond := ws_ yX5_feed cX5_feed 2 ((some .int))
theorem ce_X5_feed : jCe yX5_feed cX5_feed 2 ((some .int)) := ⟨q2910, q82, by decide⟩
theorem st_X5_feed {K : JK} {l : Launch} {lv : Nat} {av : List Value} {h0 : JIH} {QR : JQR} {QX : JQX} (F : JF K) {ls : List (Option Value)} (hls : jent av 2 = ls) (hn : (jsl av).length ≤ 2 := by first | exact Nat.le_of_ble_eq_true rfl | (simp [jsl, jcat_v]; done)) (body : ∀ M : JM, JX M K l cX5_feed RX5 2 ((some .int)) "feed" [] lv h0 QR QX → J M h0 0 ls []) : Ct K l yX5_feed wX5_feed lv av h0 QR QX := Ct.start F (by decide +kernel) hn hls body
theorem lk_L_63_X0 : jLkV RL_law 63 yX0_trace RX0 0 := ⟨q2244, q2245, q2246, ⟨by decide, by decide⟩, jNp_of (by decide +kernel)⟩
abbrev hxX0_trace : List (Nat × Nat × Nat × Nat) := [(25, 57, 58, 245)]
abbrev wX0_trace : List Cond := wsW_ yX0_trace cX0_trace 3 (some .int) hxX0_trace
theorem ce_X0_trace : jCeW yX0_trace cX0_trace 3 (some .int) hxX0_trace := ⟨q2247, q69, by decide⟩
theorem st_X0_trace {K : JK} {l : Launch} {lv : Nat} {av : List Value} {h0 : JIH} {QR : JQR} {QX : JQX} (F : JF K) {ls : List (Option Value)} (hls : jent av 3 = ls) (hn : (jsl av).length ≤ 3 := by first | exact Nat.le_of_ble_eq_true rfl | (simp [jsl, jcat_v]; done)) (body : ∀ M : JM, JX M K l cX0_trace RX0 3 (some .int) "trace" hxX0_trace lv h0 QR QX → J M h0 0 ls []) : Ct K l yX0_trace wX0_trace lv av h0 QR QX := Ct.startH F (by decide +kernel) hn hls body
theorem lk_L_67_X5 : jLkV RL_law 67 yX5_trace RX5 0 := ⟨q2911, q2912, q2913, ⟨by decide, by decide⟩, jNp_of (by decide +kernel)⟩
abbrev wX5_trace : List Cond := ws_ yX5_trace cX5_trace 2 ((some .int))
theorem ce_X5_trace : jCe yX5_trace cX5_trace 2 ((some .int)) := ⟨q2914, q82, by decide⟩
theorem st_X5_trace {K : JK} {l : Launch} {lv : Nat} {av : List Value} {h0 : JIH} {QR : JQR} {QX : JQX} (F : JF K) {ls : List (Option Value)} (hls : jent av 2 = ls) (hn : (jsl av).length ≤ 2 := by first | exact Nat.le_of_ble_eq_true rfl | (simp [jsl, jcat_v]; done)) (body : ∀ M : JM, JX M K l cX5_trace RX5 2 ((some .int)) "trace" [] lv h0 QR QX → J M h0 0 ls []) : Ct K l yX5_trace wX5_trace lv av h0 QR QX := Ct.start F (by decide +kernel) hn hls body
theorem lk_L_68_X0 : jLkV RL_law 68 yX0_run RX0 1 := ⟨q2370, q2371, q2372, ⟨by decide, by decide⟩, jNp_of (by decide +kernel)⟩
abbrev wX0_run : List Cond := ws_ yX0_run cX0_run 3 ((some .int))
theorem ce_X0_run : jCe yX0_run cX0_run 3 ((some .int)) := ⟨q2373, q69, by decide⟩
theorem st_X0_run {K : JK} {l : Launch} {lv : Nat} {av : List Value} {h0 : JIH} {QR : JQR} {QX : JQX} (F : JF K) {ls : List (Option Value)} (hls : jent av 3 = ls) (hn : (jsl av).length ≤ 3 := by first | exact Nat.le_of_ble_eq_true rfl | (simp [jsl, jcat_v]; done)) (body : ∀ M : JM, JX M K l cX0_run RX0 3 ((some .int)) "run" [] lv h0 QR QX → J M h0 0 ls []) : Ct K l yX0_run wX0_run lv av h0 QR QX := Ct.start F (by decide +kernel) hn hls body
theorem lk_L_71_X5 : jLkV RL_law 71 yX5_run RX5 1 := ⟨q2927, q2928, q2929, ⟨by decide, by decide⟩, jNp_of (by decide +kernel)⟩
abbrev wX5_run : List Cond := ws_ yX5_run cX5_run 2 ((some .int))
theorem ce_X5_run : jCe yX5_run cX5_run 2 ((some .int)) := ⟨q2930, q82, by decide⟩
theorem st_X5_run {K : JK} {l : Launch} {lv : Nat} {av : List Value} {h0 : JIH} {QR : JQR} {QX : JQX} (F : JF K) {ls : List (Option Value)} (hls : jent av 2 = ls) (hn : (jsl av).length ≤ 2 := by first | exact Nat.le_of_ble_eq_true rfl | (simp [jsl, jcat_v]; done)) (body : ∀ M : JM, JX M K l cX5_run RX5 2 ((some .int)) "run" [] lv h0 QR QX → J M h0 0 ls []) : Ct K l yX5_run wX5_run lv av h0 QR QX := Ct.start F (by decide +kernel) hn hls body
theorem lk_L_72_X0 : jLkV RL_law 72 yX0_would RX0 2 := ⟨q2441, q2442, q2443, ⟨by decide, by decide⟩, jNp_of (by decide +kernel)⟩
abbrev wX0_would : List Cond := ws_ yX0_would cX0_would 4 ((some .int))
theorem ce_X0_would : jCe yX0_would cX0_would 4 ((some .int)) := ⟨q2444, q69, by decide⟩
theorem st_X0_would {K : JK} {l : Launch} {lv : Nat} {av : List Value} {h0 : JIH} {QR : JQR} {QX : JQX} (F : JF K) {ls : List (Option Value)} (hls : jent av 4 = ls) (hn : (jsl av).length ≤ 4 := by first | exact Nat.le_of_ble_eq_true rfl | (simp [jsl, jcat_v]; done)) (body : ∀ M : JM, JX M K l cX0_would RX0 4 ((some .int)) "would" [] lv h0 QR QX → J M h0 0 ls []) : Ct K l yX0_would wX0_would lv av h0 QR QX := Ct.start F (by decide +kernel) hn hls body
theorem lk_L_75_X5 : jLkV RL_law 75 yX5_would RX5 2 := ⟨q2939, q2940, q2941, ⟨by decide, by decide⟩, jNp_of (by decide +kernel)⟩
abbrev wX5_would : List Cond := ws_ yX5_would cX5_would 4 ((some .int))
theorem ce_X5_would : jCe yX5_would cX5_would 4 ((some .int)) := ⟨q2942, q82, by decide⟩
theorem st_X5_would {K : JK} {l : Launch} {lv : Nat} {av : List Value} {h0 : JIH} {QR : JQR} {QX : JQX} (F : JF K) {ls : List (Option Value)} (hls : jent av 4 = ls) (hn : (jsl av).length ≤ 4 := by first | exact Nat.le_of_ble_eq_true rfl | (simp [jsl, jcat_v]; done)) (body : ∀ M : JM, JX M K l cX5_would RX5 4 ((some .int)) "would" [] lv h0 QR QX → J M h0 0 ls []) : Ct K l yX5_would wX5_would lv av h0 QR QX := Ct.start F (by decide +kernel) hn hls body
theorem lk_L_76_X0 : jLkV RL_law 76 yX0_need RX0 2 := ⟨q2478, q2479, q2480, ⟨by decide, by decide⟩, jNp_of (by decide +kernel)⟩
abbrev wX0_need : List Cond := ws_ yX0_need cX0_need 4 ((some .int))
theorem ce_X0_need : jCe yX0_need cX0_need 4 ((some .int)) := ⟨q2481, q69, by decide⟩
theorem st_X0_need {K : JK} {l : Launch} {lv : Nat} {av : List Value} {h0 : JIH} {QR : JQR} {QX : JQX} (F : JF K) {ls : List (Option Value)} (hls : jent av 4 = ls) (hn : (jsl av).length ≤ 4 := by first | exact Nat.le_of_ble_eq_true rfl | (simp [jsl, jcat_v]; done)) (body : ∀ M : JM, JX M K l cX0_need RX0 4 ((some .int)) "need" [] lv h0 QR QX → J M h0 0 ls []) : Ct K l yX0_need wX0_need lv av h0 QR QX := Ct.start F (by decide +kernel) hn hls body
theorem lk_L_79_X5 : jLkV RL_law 79 yX5_need RX5 2 := ⟨q2943, q2944, q2945, ⟨by decide, by decide⟩, jNp_of (by decide +kernel)⟩
abbrev wX5_need : List Cond := ws_ yX5_need cX5_need 5 ((some .int))
theorem ce_X5_need : jCe yX5_need cX5_need 5 ((some .int)) := ⟨q2946, q82, by decide⟩
theorem st_X5_need {K : JK} {l : Launch} {lv : Nat} {av : List Value} {h0 : JIH} {QR : JQR} {QX : JQX} (F : JF K) {ls : List (Option Value)} (hls : jent av 5 = ls) (hn : (jsl av).length ≤ 5 := by first | exact Nat.le_of_ble_eq_true rfl | (simp [jsl, jcat_v]; done)) (body : ∀ M : JM, JX M K l cX5_need RX5 5 ((some .int)) "need" [] lv h0 QR QX → J M h0 0 ls []) : Ct K l yX5_need wX5_need lv av h0 QR QX := Ct.start F (by decide +kernel) hn hls body
theorem lk_L_80_X0 : jLkV RL_law 80 yX0_odds RX0 3 := ⟨q2492, q2493, q2494, ⟨by decide, by decide⟩, jNp_of (by decide +kernel)⟩
abbrev wX0_odds : List Cond := ws_ yX0_odds cX0_odds 7 ((some .long))
theorem ce_X0_odds : jCe yX0_odds cX0_odds 7 ((some .long)) := ⟨q2495, q69, by decide⟩
theorem st_X0_odds {K : JK} {l : Launch} {lv : Nat} {av : List Value} {h0 : JIH} {QR : JQR} {QX : JQX} (F : JF K) {ls : List (Option Value)} (hls : jent av 7 = ls) (hn : (jsl av).length ≤ 7 := by first | exact Nat.le_of_ble_eq_true rfl | (simp [jsl, jcat_v]; done)) (body : ∀ M : JM, JX M K l cX0_odds RX0 7 ((some .long)) "odds" [] lv h0 QR QX → J M h0 0 ls []) : Ct K l yX0_odds wX0_odds lv av h0 QR QX := Ct.start F (by decide +kernel) hn hls body
theorem lk_L_84_X5 : jLkV RL_law 84 yX5_odds RX5 3 := ⟨q2947, q2948, q2949, ⟨by decide, by decide⟩, jNp_of (by decide +kernel)⟩
abbrev wX5_odds : List Cond := ws_ yX5_odds cX5_odds 6 ((some .long))
theorem ce_X5_odds : jCe yX5_odds cX5_odds 6 ((some .long)) := ⟨q2950, q82, by decide⟩
theorem st_X5_odds {K : JK} {l : Launch} {lv : Nat} {av : List Value} {h0 : JIH} {QR : JQR} {QX : JQX} (F : JF K) {ls : List (Option Value)} (hls : jent av 6 = ls) (hn : (jsl av).length ≤ 6 := by first | exact Nat.le_of_ble_eq_true rfl | (simp [jsl, jcat_v]; done)) (body : ∀ M : JM, JX M K l cX5_odds RX5 6 ((some .long)) "odds" [] lv h0 QR QX → J M h0 0 ls []) : Ct K l yX5_odds wX5_odds lv av h0 QR QX := Ct.start F (by decide +kernel) hn hls body
theorem lk_L_85_X0 : jLkV RL_law 85 yX0_mean RX0 2 := ⟨q2502, q2503, q2504, ⟨by decide, by decide⟩, jNp_of (by decide +kernel)⟩
abbrev wX0_mean : List Cond := ws_ yX0_mean cX0_mean 7 ((some .long))
theorem ce_X0_mean : jCe yX0_mean cX0_mean 7 ((some .long)) := ⟨q2505, q69, by decide⟩
theorem st_X0_mean {K : JK} {l : Launch} {lv : Nat} {av : List Value} {h0 : JIH} {QR : JQR} {QX : JQX} (F : JF K) {ls : List (Option Value)} (hls : jent av 7 = ls) (hn : (jsl av).length ≤ 7 := by first | exact Nat.le_of_ble_eq_true rfl | (simp [jsl, jcat_v]; done)) (body : ∀ M : JM, JX M K l cX0_mean RX0 7 ((some .long)) "mean" [] lv h0 QR QX → J M h0 0 ls []) : Ct K l yX0_mean wX0_mean lv av h0 QR QX := Ct.start F (by decide +kernel) hn hls body
theorem lk_L_88_X5 : jLkV RL_law 88 yX5_mean RX5 2 := ⟨q2957, q2958, q2959, ⟨by decide, by decide⟩, jNp_of (by decide +kernel)⟩
abbrev wX5_mean : List Cond := ws_ yX5_mean cX5_mean 5 ((some .long))
theorem ce_X5_mean : jCe yX5_mean cX5_mean 5 ((some .long)) := ⟨q2960, q82, by decide⟩
theorem st_X5_mean {K : JK} {l : Launch} {lv : Nat} {av : List Value} {h0 : JIH} {QR : JQR} {QX : JQX} (F : JF K) {ls : List (Option Value)} (hls : jent av 5 = ls) (hn : (jsl av).length ≤ 5 := by first | exact Nat.le_of_ble_eq_true rfl | (simp [jsl, jcat_v]; done)) (body : ∀ M : JM, JX M K l cX5_mean RX5 5 ((some .long)) "mean" [] lv h0 QR QX → J M h0 0 ls []) : Ct K l yX5_mean wX5_mean lv av h0 QR QX := Ct.start F (by decide +kernel) hn hls body
theorem lk_L_89_X0 : jLkV RL_law 89 yX0_book RX0 3 := ⟨q2568, q2569, q2570, ⟨by decide, by decide⟩, jNp_of (by decide +kernel)⟩
abbrev wX0_book : List Cond := ws_ yX0_book cX0_book 4 ((some .int))
theorem ce_X0_book : jCe yX0_book cX0_book 4 ((some .int)) := ⟨q2571, q69, by decide⟩
theorem st_X0_book {K : JK} {l : Launch} {lv : Nat} {av : List Value} {h0 : JIH} {QR : JQR} {QX : JQX} (F : JF K) {ls : List (Option Value)} (hls : jent av 4 = ls) (hn : (jsl av).length ≤ 4 := by first | exact Nat.le_of_ble_eq_true rfl | (simp [jsl, jcat_v]; done)) (body : ∀ M : JM, JX M K l cX0_book RX0 4 ((some .int)) "book" [] lv h0 QR QX → J M h0 0 ls []) : Ct K l yX0_book wX0_book lv av h0 QR QX := Ct.start F (by decide +kernel) hn hls body
theorem lk_L_92_X5 : jLkV RL_law 92 yX5_book RX5 3 := ⟨q2965, q2966, q2967, ⟨by decide, by decide⟩, jNp_of (by decide +kernel)⟩
abbrev wX5_book : List Cond := ws_ yX5_book cX5_book 4 ((some .int))
theorem ce_X5_book : jCe yX5_book cX5_book 4 ((some .int)) := ⟨q2968, q82, by decide⟩
theorem st_X5_book {K : JK} {l : Launch} {lv : Nat} {av : List Value} {h0 : JIH} {QR : JQR} {QX : JQX} (F : JF K) {ls : List (Option Value)} (hls : jent av 4 = ls) (hn : (jsl av).length ≤ 4 := by first | exact Nat.le_of_ble_eq_true rfl | (simp [jsl, jcat_v]; done)) (body : ∀ M : JM, JX M K l cX5_book RX5 4 ((some .int)) "book" [] lv h0 QR QX → J M h0 0 ls []) : Ct K l yX5_book wX5_book lv av h0 QR QX := Ct.start F (by decide +kernel) hn hls body
theorem lk_L_93_X0 : jLkV RL_law 93 yX0_looked RX0 0 := ⟨q2572, q2573, q2574, ⟨by decide, by decide⟩, jNp_of (by decide +kernel)⟩
abbrev wX0_looked : List Cond := ws_ yX0_looked cX0_looked 2 ((some .int))
theorem ce_X0_looked : jCe yX0_looked cX0_looked 2 ((some .int)) := ⟨q2575, q69, by decide⟩
theorem st_X0_looked {K : JK} {l : Launch} {lv : Nat} {av : List Value} {h0 : JIH} {QR : JQR} {QX : JQX} (F : JF K) {ls : List (Option Value)} (hls : jent av 2 = ls) (hn : (jsl av).length ≤ 2 := by first | exact Nat.le_of_ble_eq_true rfl | (simp [jsl, jcat_v]; done)) (body : ∀ M : JM, JX M K l cX0_looked RX0 2 ((some .int)) "looked" [] lv h0 QR QX → J M h0 0 ls []) : Ct K l yX0_looked wX0_looked lv av h0 QR QX := Ct.start F (by decide +kernel) hn hls body
theorem lk_L_96_X5 : jLkV RL_law 96 yX5_looked RX5 0 := ⟨q2969, q2970, q2971, ⟨by decide, by decide⟩, jNp_of (by decide +kernel)⟩
abbrev wX5_looked : List Cond := ws_ yX5_looked cX5_looked 2 ((some .int))
theorem ce_X5_looked : jCe yX5_looked cX5_looked 2 ((some .int)) := ⟨q2972, q82, by decide⟩
theorem st_X5_looked {K : JK} {l : Launch} {lv : Nat} {av : List Value} {h0 : JIH} {QR : JQR} {QX : JQX} (F : JF K) {ls : List (Option Value)} (hls : jent av 2 = ls) (hn : (jsl av).length ≤ 2 := by first | exact Nat.le_of_ble_eq_true rfl | (simp [jsl, jcat_v]; done)) (body : ∀ M : JM, JX M K l cX5_looked RX5 2 ((some .int)) "looked" [] lv h0 QR QX → J M h0 0 ls []) : Ct K l yX5_looked wX5_looked lv av h0 QR QX := Ct.start F (by decide +kernel) hn hls body
theorem lk_L_97_X0 : jLkV RL_law 97 yX0_judge RX0 2 := ⟨q2576, q2577, q2578, ⟨by decide, by decide⟩, jNp_of (by decide +kernel)⟩
abbrev hxX0_judge : List (Nat × Nat × Nat × Nat) := [(9, 26, 27, 328)]
abbrev wX0_judge : List Cond := wsW_ yX0_judge cX0_judge 4 (some .int) hxX0_judge
theorem ce_X0_judge : jCeW yX0_judge cX0_judge 4 (some .int) hxX0_judge := ⟨q2579, q69, by decide⟩
theorem st_X0_judge {K : JK} {l : Launch} {lv : Nat} {av : List Value} {h0 : JIH} {QR : JQR} {QX : JQX} (F : JF K) {ls : List (Option Value)} (hls : jent av 4 = ls) (hn : (jsl av).length ≤ 4 := by first | exact Nat.le_of_ble_eq_true rfl | (simp [jsl, jcat_v]; done)) (body : ∀ M : JM, JX M K l cX0_judge RX0 4 (some .int) "judge" hxX0_judge lv h0 QR QX → J M h0 0 ls []) : Ct K l yX0_judge wX0_judge lv av h0 QR QX := Ct.startH F (by decide +kernel) hn hls body
theorem lk_L_100_X5 : jLkV RL_law 100 yX5_judge RX5 2 := ⟨q2973, q2974, q2975, ⟨by decide, by decide⟩, jNp_of (by decide +kernel)⟩
abbrev wX5_judge : List Cond := ws_ yX5_judge cX5_judge 5 ((some .int))
theorem ce_X5_judge : jCe yX5_judge cX5_judge 5 ((some .int)) := ⟨q2976, q82, by decide⟩
theorem st_X5_judge {K : JK} {l : Launch} {lv : Nat} {av : List Value} {h0 : JIH} {QR : JQR} {QX : JQX} (F : JF K) {ls : List (Option Value)} (hls : jent av 5 = ls) (hn : (jsl av).length ≤ 5 := by first | exact Nat.le_of_ble_eq_true rfl | (simp [jsl, jcat_v]; done)) (body : ∀ M : JM, JX M K l cX5_judge RX5 5 ((some .int)) "judge" [] lv h0 QR QX → J M h0 0 ls []) : Ct K l yX5_judge wX5_judge lv av h0 QR QX := Ct.start F (by decide +kernel) hn hls body
theorem lk_L_101_X0 : jLkV RL_law 101 yX0_image RX0 0 := ⟨q2608, q2609, q2610, ⟨by decide, by decide⟩, jNp_of (by decide +kernel)⟩
abbrev wX0_image : List Cond := ws_ yX0_image cX0_image 1 ((some .int))
theorem ce_X0_image : jCe yX0_image cX0_image 1 ((some .int)) := ⟨q2611, q69, by decide⟩
theorem st_X0_image {K : JK} {l : Launch} {lv : Nat} {av : List Value} {h0 : JIH} {QR : JQR} {QX : JQX} (F : JF K) {ls : List (Option Value)} (hls : jent av 1 = ls) (hn : (jsl av).length ≤ 1 := by first | exact Nat.le_of_ble_eq_true rfl | (simp [jsl, jcat_v]; done)) (body : ∀ M : JM, JX M K l cX0_image RX0 1 ((some .int)) "image" [] lv h0 QR QX → J M h0 0 ls []) : Ct K l yX0_image wX0_image lv av h0 QR QX := Ct.start F (by decide +kernel) hn hls body
theorem lk_L_104_X5 : jLkV RL_law 104 yX5_image RX5 0 := ⟨q2980, q2981, q2982, ⟨by decide, by decide⟩, jNp_of (by decide +kernel)⟩
abbrev wX5_image : List Cond := ws_ yX5_image cX5_image 1 ((some .int))
theorem ce_X5_image : jCe yX5_image cX5_image 1 ((some .int)) := ⟨q2983, q82, by decide⟩
theorem st_X5_image {K : JK} {l : Launch} {lv : Nat} {av : List Value} {h0 : JIH} {QR : JQR} {QX : JQX} (F : JF K) {ls : List (Option Value)} (hls : jent av 1 = ls) (hn : (jsl av).length ≤ 1 := by first | exact Nat.le_of_ble_eq_true rfl | (simp [jsl, jcat_v]; done)) (body : ∀ M : JM, JX M K l cX5_image RX5 1 ((some .int)) "image" [] lv h0 QR QX → J M h0 0 ls []) : Ct K l yX5_image wX5_image lv av h0 QR QX := Ct.start F (by decide +kernel) hn hls body
theorem lk_L_105_X0 : jLkV RL_law 105 yX0_undo RX0 0 := ⟨q2647, q2648, q2649, ⟨by decide, by decide⟩, jNp_of (by decide +kernel)⟩
abbrev wX0_undo : List Cond := ws_ yX0_undo cX0_undo 1 ((some .int))
theorem ce_X0_undo : jCe yX0_undo cX0_undo 1 ((some .int)) := ⟨q2650, q69, by decide⟩
theorem st_X0_undo {K : JK} {l : Launch} {lv : Nat} {av : List Value} {h0 : JIH} {QR : JQR} {QX : JQX} (F : JF K) {ls : List (Option Value)} (hls : jent av 1 = ls) (hn : (jsl av).length ≤ 1 := by first | exact Nat.le_of_ble_eq_true rfl | (simp [jsl, jcat_v]; done)) (body : ∀ M : JM, JX M K l cX0_undo RX0 1 ((some .int)) "undo" [] lv h0 QR QX → J M h0 0 ls []) : Ct K l yX0_undo wX0_undo lv av h0 QR QX := Ct.start F (by decide +kernel) hn hls body
theorem lk_L_108_X5 : jLkV RL_law 108 yX5_undo RX5 0 := ⟨q2984, q2985, q2986, ⟨by decide, by decide⟩, jNp_of (by decide +kernel)⟩
abbrev wX5_undo : List Cond := ws_ yX5_undo cX5_undo 1 ((some .int))
theorem ce_X5_undo : jCe yX5_undo cX5_undo 1 ((some .int)) := ⟨q2987, q82, by decide⟩
theorem st_X5_undo {K : JK} {l : Launch} {lv : Nat} {av : List Value} {h0 : JIH} {QR : JQR} {QX : JQX} (F : JF K) {ls : List (Option Value)} (hls : jent av 1 = ls) (hn : (jsl av).length ≤ 1 := by first | exact Nat.le_of_ble_eq_true rfl | (simp [jsl, jcat_v]; done)) (body : ∀ M : JM, JX M K l cX5_undo RX5 1 ((some .int)) "undo" [] lv h0 QR QX → J M h0 0 ls []) : Ct K l yX5_undo wX5_undo lv av h0 QR QX := Ct.start F (by decide +kernel) hn hls body
theorem lk_L_109_X0 : jLkV RL_law 109 yX0_count RX0 1 := ⟨q2651, q2652, q2653, ⟨by decide, by decide⟩, jNp_of (by decide +kernel)⟩
abbrev wX0_count : List Cond := ws_ yX0_count cX0_count 2 ((some .int))
theorem ce_X0_count : jCe yX0_count cX0_count 2 ((some .int)) := ⟨q2654, q69, by decide⟩
theorem st_X0_count {K : JK} {l : Launch} {lv : Nat} {av : List Value} {h0 : JIH} {QR : JQR} {QX : JQX} (F : JF K) {ls : List (Option Value)} (hls : jent av 2 = ls) (hn : (jsl av).length ≤ 2 := by first | exact Nat.le_of_ble_eq_true rfl | (simp [jsl, jcat_v]; done)) (body : ∀ M : JM, JX M K l cX0_count RX0 2 ((some .int)) "count" [] lv h0 QR QX → J M h0 0 ls []) : Ct K l yX0_count wX0_count lv av h0 QR QX := Ct.start F (by decide +kernel) hn hls body
theorem lk_L_112_X5 : jLkV RL_law 112 yX5_count RX5 1 := ⟨q2988, q2989, q2990, ⟨by decide, by decide⟩, jNp_of (by decide +kernel)⟩
abbrev wX5_count : List Cond := ws_ yX5_count cX5_count 2 ((some .int))
theorem ce_X5_count : jCe yX5_count cX5_count 2 ((some .int)) := ⟨q2991, q82, by decide⟩
theorem st_X5_count {K : JK} {l : Launch} {lv : Nat} {av : List Value} {h0 : JIH} {QR : JQR} {QX : JQX} (F : JF K) {ls : List (Option Value)} (hls : jent av 2 = ls) (hn : (jsl av).length ≤ 2 := by first | exact Nat.le_of_ble_eq_true rfl | (simp [jsl, jcat_v]; done)) (body : ∀ M : JM, JX M K l cX5_count RX5 2 ((some .int)) "count" [] lv h0 QR QX → J M h0 0 ls []) : Ct K l yX5_count wX5_count lv av h0 QR QX := Ct.start F (by decide +kernel) hn hls body
theorem lk_L_113_X0 : jLkV RL_law 113 yX0_tape RX0 3 := ⟨q2655, q2656, q2657, ⟨by decide, by decide⟩, jNp_of (by decide +kernel)⟩
abbrev hxX0_tape : List (Nat × Nat × Nat × Nat) := [(32, 56, 57, 355)]
abbrev wX0_tape : List Cond := wsW_ yX0_tape cX0_tape 5 (some .int) hxX0_tape
theorem ce_X0_tape : jCeW yX0_tape cX0_tape 5 (some .int) hxX0_tape := ⟨q2658, q69, by decide⟩
theorem st_X0_tape {K : JK} {l : Launch} {lv : Nat} {av : List Value} {h0 : JIH} {QR : JQR} {QX : JQX} (F : JF K) {ls : List (Option Value)} (hls : jent av 5 = ls) (hn : (jsl av).length ≤ 5 := by first | exact Nat.le_of_ble_eq_true rfl | (simp [jsl, jcat_v]; done)) (body : ∀ M : JM, JX M K l cX0_tape RX0 5 (some .int) "tape" hxX0_tape lv h0 QR QX → J M h0 0 ls []) : Ct K l yX0_tape wX0_tape lv av h0 QR QX := Ct.startH F (by decide +kernel) hn hls body
theorem lk_L_116_X5 : jLkV RL_law 116 yX5_tape RX5 3 := ⟨q2992, q2993, q2994, ⟨by decide, by decide⟩, jNp_of (by decide +kernel)⟩
abbrev wX5_tape : List Cond := ws_ yX5_tape cX5_tape 5 ((some .int))
theorem ce_X5_tape : jCe yX5_tape cX5_tape 5 ((some .int)) := ⟨q2995, q82, by decide⟩
theorem st_X5_tape {K : JK} {l : Launch} {lv : Nat} {av : List Value} {h0 : JIH} {QR : JQR} {QX : JQX} (F : JF K) {ls : List (Option Value)} (hls : jent av 5 = ls) (hn : (jsl av).length ≤ 5 := by first | exact Nat.le_of_ble_eq_true rfl | (simp [jsl, jcat_v]; done)) (body : ∀ M : JM, JX M K l cX5_tape RX5 5 ((some .int)) "tape" [] lv h0 QR QX → J M h0 0 ls []) : Ct K l yX5_tape wX5_tape lv av h0 QR QX := Ct.start F (by decide +kernel) hn hls body
theorem lk_L_119_X0 : jLkV RL_law 119 yX0_item RX0 3 := ⟨q2668, q2669, q2670, ⟨by decide, by decide⟩, jNp_of (by decide +kernel)⟩
abbrev hxX0_item : List (Nat × Nat × Nat × Nat) := [(17, 23, 26, 245)]
abbrev wX0_item : List Cond := wsW_ yX0_item cX0_item 11 (some .int) hxX0_item
theorem ce_X0_item : jCeW yX0_item cX0_item 11 (some .int) hxX0_item := ⟨q2671, q69, by decide⟩
theorem st_X0_item {K : JK} {l : Launch} {lv : Nat} {av : List Value} {h0 : JIH} {QR : JQR} {QX : JQX} (F : JF K) {ls : List (Option Value)} (hls : jent av 11 = ls) (hn : (jsl av).length ≤ 11 := by first | exact Nat.le_of_ble_eq_true rfl | (simp [jsl, jcat_v]; done)) (body : ∀ M : JM, JX M K l cX0_item RX0 11 (some .int) "item" hxX0_item lv h0 QR QX → J M h0 0 ls []) : Ct K l yX0_item wX0_item lv av h0 QR QX := Ct.startH F (by decide +kernel) hn hls body
theorem lk_L_123_X5 : jLkV RL_law 123 yX5_item RX5 3 := ⟨q2996, q2997, q2998, ⟨by decide, by decide⟩, jNp_of (by decide +kernel)⟩
abbrev wX5_item : List Cond := ws_ yX5_item cX5_item 5 ((some .int))
theorem ce_X5_item : jCe yX5_item cX5_item 5 ((some .int)) := ⟨q2999, q82, by decide⟩
theorem st_X5_item {K : JK} {l : Launch} {lv : Nat} {av : List Value} {h0 : JIH} {QR : JQR} {QX : JQX} (F : JF K) {ls : List (Option Value)} (hls : jent av 5 = ls) (hn : (jsl av).length ≤ 5 := by first | exact Nat.le_of_ble_eq_true rfl | (simp [jsl, jcat_v]; done)) (body : ∀ M : JM, JX M K l cX5_item RX5 5 ((some .int)) "item" [] lv h0 QR QX → J M h0 0 ls []) : Ct K l yX5_item wX5_item lv av h0 QR QX := Ct.start F (by decide +kernel) hn hls body
theorem lk_L_124_X0 : jLkV RL_law 124 yX0_read RX0 2 := ⟨q2692, q2693, q2694, ⟨by decide, by decide⟩, jNp_of (by decide +kernel)⟩
abbrev wX0_read : List Cond := ws_ yX0_read cX0_read 6 ((some .long))
theorem ce_X0_read : jCe yX0_read cX0_read 6 ((some .long)) := ⟨q2695, q69, by decide⟩
theorem st_X0_read {K : JK} {l : Launch} {lv : Nat} {av : List Value} {h0 : JIH} {QR : JQR} {QX : JQX} (F : JF K) {ls : List (Option Value)} (hls : jent av 6 = ls) (hn : (jsl av).length ≤ 6 := by first | exact Nat.le_of_ble_eq_true rfl | (simp [jsl, jcat_v]; done)) (body : ∀ M : JM, JX M K l cX0_read RX0 6 ((some .long)) "read" [] lv h0 QR QX → J M h0 0 ls []) : Ct K l yX0_read wX0_read lv av h0 QR QX := Ct.start F (by decide +kernel) hn hls body
theorem lk_L_127_X5 : jLkV RL_law 127 yX5_read RX5 2 := ⟨q3003, q3004, q3005, ⟨by decide, by decide⟩, jNp_of (by decide +kernel)⟩
abbrev wX5_read : List Cond := ws_ yX5_read cX5_read 3 ((some .long))
theorem ce_X5_read : jCe yX5_read cX5_read 3 ((some .long)) := ⟨q3006, q82, by decide⟩
theorem st_X5_read {K : JK} {l : Launch} {lv : Nat} {av : List Value} {h0 : JIH} {QR : JQR} {QX : JQX} (F : JF K) {ls : List (Option Value)} (hls : jent av 3 = ls) (hn : (jsl av).length ≤ 3 := by first | exact Nat.le_of_ble_eq_true rfl | (simp [jsl, jcat_v]; done)) (body : ∀ M : JM, JX M K l cX5_read RX5 3 ((some .long)) "read" [] lv h0 QR QX → J M h0 0 ls []) : Ct K l yX5_read wX5_read lv av h0 QR QX := Ct.start F (by decide +kernel) hn hls body
theorem lk_L_128_X0 : jLkV RL_law 128 yX0_shift RX0 5 := ⟨q2697, q2698, q2699, ⟨by decide, by decide⟩, jNp_of (by decide +kernel)⟩
abbrev hxX0_shift : List (Nat × Nat × Nat × Nat) := [(16, 44, 45, 313), (16, 44, 50, 367), (16, 44, 55, 369)]
abbrev wX0_shift : List Cond := wsW_ yX0_shift cX0_shift 7 (some .int) hxX0_shift
theorem ce_X0_shift : jCeW yX0_shift cX0_shift 7 (some .int) hxX0_shift := ⟨q2700, q69, by decide⟩
theorem st_X0_shift {K : JK} {l : Launch} {lv : Nat} {av : List Value} {h0 : JIH} {QR : JQR} {QX : JQX} (F : JF K) {ls : List (Option Value)} (hls : jent av 7 = ls) (hn : (jsl av).length ≤ 7 := by first | exact Nat.le_of_ble_eq_true rfl | (simp [jsl, jcat_v]; done)) (body : ∀ M : JM, JX M K l cX0_shift RX0 7 (some .int) "shift" hxX0_shift lv h0 QR QX → J M h0 0 ls []) : Ct K l yX0_shift wX0_shift lv av h0 QR QX := Ct.startH F (by decide +kernel) hn hls body
theorem lk_L_131_X5 : jLkV RL_law 131 yX5_shift RX5 5 := ⟨q3007, q3008, q3009, ⟨by decide, by decide⟩, jNp_of (by decide +kernel)⟩
abbrev wX5_shift : List Cond := ws_ yX5_shift cX5_shift 7 ((some .int))
theorem ce_X5_shift : jCe yX5_shift cX5_shift 7 ((some .int)) := ⟨q3010, q82, by decide⟩
theorem st_X5_shift {K : JK} {l : Launch} {lv : Nat} {av : List Value} {h0 : JIH} {QR : JQR} {QX : JQX} (F : JF K) {ls : List (Option Value)} (hls : jent av 7 = ls) (hn : (jsl av).length ≤ 7 := by first | exact Nat.le_of_ble_eq_true rfl | (simp [jsl, jcat_v]; done)) (body : ∀ M : JM, JX M K l cX5_shift RX5 7 ((some .int)) "shift" [] lv h0 QR QX → J M h0 0 ls []) : Ct K l yX5_shift wX5_shift lv av h0 QR QX := Ct.start F (by decide +kernel) hn hls body
abbrev wJ16_init_3 : List Cond := ws_ yJ16_init_3 cJ16_init_3 2 (none)
theorem ce_J16_init_3 : jCe yJ16_init_3 cJ16_init_3 2 (none) := ⟨q1021, q91, by decide⟩
theorem st_J16_init_3 {K : JK} {l : Launch} {lv : Nat} {av : List Value} {h0 : JIH} {QR : JQR} {QX : JQX} (F : JF K) {ls : List (Option Value)} (hls : jent av 2 = ls) (hn : (jsl av).length ≤ 2 := by first | exact Nat.le_of_ble_eq_true rfl | (simp [jsl, jcat_v]; done)) (body : ∀ M : JM, JX M K l cJ16_init_3 RJ16 2 (none) "<init>" [] lv h0 QR QX → J M h0 0 ls []) : Ct K l yJ16_init_3 wJ16_init_3 lv av h0 QR QX := Ct.start F (by decide +kernel) hn hls body
abbrev wJ22_init : List Cond := ws_ yJ22_init cJ22_init 1 (none)
theorem ce_J22_init : jCe yJ22_init cJ22_init 1 (none) := ⟨q747, q97, by decide⟩
theorem st_J22_init {K : JK} {l : Launch} {lv : Nat} {av : List Value} {h0 : JIH} {QR : JQR} {QX : JQX} (F : JF K) {ls : List (Option Value)} (hls : jent av 1 = ls) (hn : (jsl av).length ≤ 1 := by first | exact Nat.le_of_ble_eq_true rfl | (simp [jsl, jcat_v]; done)) (body : ∀ M : JM, JX M K l cJ22_init RJ22 1 (none) "<init>" [] lv h0 QR QX → J M h0 0 ls []) : Ct K l yJ22_init wJ22_init lv av h0 QR QX := Ct.start F (by decide +kernel) hn hls body
abbrev wJ22_init_2 : List Cond := ws_ yJ22_init_2 cJ22_init_2 2 (none)
theorem ce_J22_init_2 : jCe yJ22_init_2 cJ22_init_2 2 (none) := ⟨q2661, q97, by decide⟩
theorem st_J22_init_2 {K : JK} {l : Launch} {lv : Nat} {av : List Value} {h0 : JIH} {QR : JQR} {QX : JQX} (F : JF K) {ls : List (Option Value)} (hls : jent av 2 = ls) (hn : (jsl av).length ≤ 2 := by first | exact Nat.le_of_ble_eq_true rfl | (simp [jsl, jcat_v]; done)) (body : ∀ M : JM, JX M K l cJ22_init_2 RJ22 2 (none) "<init>" [] lv h0 QR QX → J M h0 0 ls []) : Ct K l yJ22_init_2 wJ22_init_2 lv av h0 QR QX := Ct.start F (by decide +kernel) hn hls body
abbrev wJ24_copyOf : List Cond := ws_ yJ24_copyOf cJ24_copyOf 3 ((Option.some (.array .byte)))
theorem ce_J24_copyOf : jCe yJ24_copyOf cJ24_copyOf 3 ((Option.some (.array .byte))) := ⟨q815, q99, by decide⟩
theorem st_J24_copyOf {K : JK} {l : Launch} {lv : Nat} {av : List Value} {h0 : JIH} {QR : JQR} {QX : JQX} (F : JF K) {ls : List (Option Value)} (hls : jent av 3 = ls) (hn : (jsl av).length ≤ 3 := by first | exact Nat.le_of_ble_eq_true rfl | (simp [jsl, jcat_v]; done)) (body : ∀ M : JM, JX M K l cJ24_copyOf RJ24 3 ((Option.some (.array .byte))) "copyOf" [] lv h0 QR QX → J M h0 0 ls []) : Ct K l yJ24_copyOf wJ24_copyOf lv av h0 QR QX := Ct.start F (by decide +kernel) hn hls body
abbrev wJ24_copyOfRange : List Cond := ws_ yJ24_copyOfRange cJ24_copyOfRange 3 ((Option.some (.array .byte)))
theorem ce_J24_copyOfRange : jCe yJ24_copyOfRange cJ24_copyOfRange 3 ((Option.some (.array .byte))) := ⟨q956, q99, by decide⟩
theorem st_J24_copyOfRange {K : JK} {l : Launch} {lv : Nat} {av : List Value} {h0 : JIH} {QR : JQR} {QX : JQX} (F : JF K) {ls : List (Option Value)} (hls : jent av 3 = ls) (hn : (jsl av).length ≤ 3 := by first | exact Nat.le_of_ble_eq_true rfl | (simp [jsl, jcat_v]; done)) (body : ∀ M : JM, JX M K l cJ24_copyOfRange RJ24 3 ((Option.some (.array .byte))) "copyOfRange" [] lv h0 QR QX → J M h0 0 ls []) : Ct K l yJ24_copyOfRange wJ24_copyOfRange lv av h0 QR QX := Ct.start F (by decide +kernel) hn hls body
abbrev wJ44_init : List Cond := ws_ yJ44_init cJ44_init 2 (none)
theorem ce_J44_init : jCe yJ44_init cJ44_init 2 (none) := ⟨q2583, q129, by decide⟩
theorem st_J44_init {K : JK} {l : Launch} {lv : Nat} {av : List Value} {h0 : JIH} {QR : JQR} {QX : JQX} (F : JF K) {ls : List (Option Value)} (hls : jent av 2 = ls) (hn : (jsl av).length ≤ 2 := by first | exact Nat.le_of_ble_eq_true rfl | (simp [jsl, jcat_v]; done)) (body : ∀ M : JM, JX M K l cJ44_init RJ44 2 (none) "<init>" [] lv h0 QR QX → J M h0 0 ls []) : Ct K l yJ44_init wJ44_init lv av h0 QR QX := Ct.start F (by decide +kernel) hn hls body
abbrev wJ45_init : List Cond := ws_ yJ45_init cJ45_init 2 (none)
theorem ce_J45_init : jCe yJ45_init cJ45_init 2 (none) := ⟨q2704, q130, by decide⟩
theorem st_J45_init {K : JK} {l : Launch} {lv : Nat} {av : List Value} {h0 : JIH} {QR : JQR} {QX : JQX} (F : JF K) {ls : List (Option Value)} (hls : jent av 2 = ls) (hn : (jsl av).length ≤ 2 := by first | exact Nat.le_of_ble_eq_true rfl | (simp [jsl, jcat_v]; done)) (body : ∀ M : JM, JX M K l cJ45_init RJ45 2 (none) "<init>" [] lv h0 QR QX → J M h0 0 ls []) : Ct K l yJ45_init wJ45_init lv av h0 QR QX := Ct.start F (by decide +kernel) hn hls body
abbrev wJ46_init : List Cond := ws_ yJ46_init cJ46_init 2 (none)
theorem ce_J46_init : jCe yJ46_init cJ46_init 2 (none) := ⟨q2718, q131, by decide⟩
theorem st_J46_init {K : JK} {l : Launch} {lv : Nat} {av : List Value} {h0 : JIH} {QR : JQR} {QX : JQX} (F : JF K) {ls : List (Option Value)} (hls : jent av 2 = ls) (hn : (jsl av).length ≤ 2 := by first | exact Nat.le_of_ble_eq_true rfl | (simp [jsl, jcat_v]; done)) (body : ∀ M : JM, JX M K l cJ46_init RJ46 2 (none) "<init>" [] lv h0 QR QX → J M h0 0 ls []) : Ct K l yJ46_init wJ46_init lv av h0 QR QX := Ct.start F (by decide +kernel) hn hls body
abbrev wJ40_hasNext : List Cond := ws_ yJ40_hasNext cJ40_hasNext 1 ((some .boolean))
theorem ce_J40_hasNext : jCe yJ40_hasNext cJ40_hasNext 1 ((some .boolean)) := ⟨q595, q124, by decide⟩
theorem st_J40_hasNext {K : JK} {l : Launch} {lv : Nat} {av : List Value} {h0 : JIH} {QR : JQR} {QX : JQX} (F : JF K) {ls : List (Option Value)} (hls : jent av 1 = ls) (hn : (jsl av).length ≤ 1 := by first | exact Nat.le_of_ble_eq_true rfl | (simp [jsl, jcat_v]; done)) (body : ∀ M : JM, JX M K l cJ40_hasNext RJ40 1 ((some .boolean)) "hasNext" [] lv h0 QR QX → J M h0 0 ls []) : Ct K l yJ40_hasNext wJ40_hasNext lv av h0 QR QX := Ct.start F (by decide +kernel) hn hls body
abbrev hxJ40_next : List (Nat × Nat × Nat × Nat) := [(4, 31, 32, 39)]
abbrev wJ40_next : List Cond := wsW_ yJ40_next cJ40_next 3 (Option.some (.object "java/lang/Object")) hxJ40_next
theorem ce_J40_next : jCeW yJ40_next cJ40_next 3 (Option.some (.object "java/lang/Object")) hxJ40_next := ⟨q634, q124, by decide⟩
theorem st_J40_next {K : JK} {l : Launch} {lv : Nat} {av : List Value} {h0 : JIH} {QR : JQR} {QX : JQX} (F : JF K) {ls : List (Option Value)} (hls : jent av 3 = ls) (hn : (jsl av).length ≤ 3 := by first | exact Nat.le_of_ble_eq_true rfl | (simp [jsl, jcat_v]; done)) (body : ∀ M : JM, JX M K l cJ40_next RJ40 3 (Option.some (.object "java/lang/Object")) "next" hxJ40_next lv h0 QR QX → J M h0 0 ls []) : Ct K l yJ40_next wJ40_next lv av h0 QR QX := Ct.startH F (by decide +kernel) hn hls body
abbrev wJ40_checkForComodification : List Cond := ws_ yJ40_checkForComodification cJ40_checkForComodification 1 (none)
theorem ce_J40_checkForComodification : jCe yJ40_checkForComodification cJ40_checkForComodification 1 (none) := ⟨q639, q124, by decide⟩
theorem st_J40_checkForComodification {K : JK} {l : Launch} {lv : Nat} {av : List Value} {h0 : JIH} {QR : JQR} {QX : JQX} (F : JF K) {ls : List (Option Value)} (hls : jent av 1 = ls) (hn : (jsl av).length ≤ 1 := by first | exact Nat.le_of_ble_eq_true rfl | (simp [jsl, jcat_v]; done)) (body : ∀ M : JM, JX M K l cJ40_checkForComodification RJ40 1 (none) "checkForComodification" [] lv h0 QR QX → J M h0 0 ls []) : Ct K l yJ40_checkForComodification wJ40_checkForComodification lv av h0 QR QX := Ct.start F (by decide +kernel) hn hls body
abbrev hxJ40_remove : List (Nat × Nat × Nat × Nat) := [(19, 68, 71, 39)]
abbrev wJ40_remove : List Cond := wsW_ yJ40_remove cJ40_remove 2 (none) hxJ40_remove
theorem ce_J40_remove : jCeW yJ40_remove cJ40_remove 2 (none) hxJ40_remove := ⟨q1240, q124, by decide⟩
theorem st_J40_remove {K : JK} {l : Launch} {lv : Nat} {av : List Value} {h0 : JIH} {QR : JQR} {QX : JQX} (F : JF K) {ls : List (Option Value)} (hls : jent av 2 = ls) (hn : (jsl av).length ≤ 2 := by first | exact Nat.le_of_ble_eq_true rfl | (simp [jsl, jcat_v]; done)) (body : ∀ M : JM, JX M K l cJ40_remove RJ40 2 (none) "remove" hxJ40_remove lv h0 QR QX → J M h0 0 ls []) : Ct K l yJ40_remove wJ40_remove lv av h0 QR QX := Ct.startH F (by decide +kernel) hn hls body
