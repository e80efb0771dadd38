/-! small classes: keys, things, goings, clauses -/
section JR
variable {M : JM} {K : JK} {l0 : Launch} {cc : ByteArray} {own : String} {nL : Nat} {ret : Option FieldType} {nm : String} {hh : List (Nat × Nat × Nat × Nat)} {lv : Nat} {h0 : JIH} {QR : JQR} {QX : JQX} {h : JIH} {pc : Nat} {ls : List (Option Value)} {st : List Value}
theorem J.putfS {idx ci k a : Nat} {fs : List Value} {v : Value} {ty : FieldType} {e0 : va_E} (X : JX M K l0 cc own nL ret nm hh lv h0 QR QX) (hd : decode cc pc = .ok (.putfield idx, 3)) (fl : jPL own nm idx ci k ty) (hf : hget h a = some e0) (hl : k < fs.length) (hn : narrow ty v = v) (hfit : fits ty v = true) (kk : J M (hset h a (jO ci (fs.set k v))) (pc + 3) ls st) : J M (hset h a (jO ci fs)) pc ls (v :: .ref a :: st) :=
  J.putf X hd fl (hget_set_same _ hf) hl hn hfit (by rw [hset_hset hf]; exact kk)
theorem J.fresh {a : Nat} {e : va_E} (hf : hget h a = some e) (k : J M (hset h a e) pc ls st) : J M h pc ls st := by rw [hset_self hf] at k; exact k
end JR
theorem ky_init {K : JK} {l : Launch} {hE : JIH} (F : JF K) {a : Nat} {x y : Value} (hf : hget hE a = some (jO 8 [x, y])) (s n : Int32) :
    Ct K l yX8_init wX8_init 1 [.ref a, .int s, .int n] hE (jRv (fun h' => h' = hset hE a (jO 8 [.int s, .int n]))) jNo := by
  refine st_X8_init (ls := [some (.ref a), some (.int s), some (.int n)]) F rfl (body := fun M X => ?_)
  refine J.fresh hf ?_
  refine J.aload0 X dX8_init_0 ?_
  refine J.objInit X dX8_init_1 lk_X8_3 (by decide) ?_
  refine J.aload0 X dX8_init_4 ?_
  refine J.iload1 X dX8_init_5 ?_
  refine J.putfS X dX8_init_6 pl_X8_9_X8 (hf) (Nat.le_of_ble_eq_true rfl) (rfl) (rfl) ?_
  refine J.aload0 X dX8_init_9 ?_
  refine J.iload2 X dX8_init_10 ?_
  refine J.putfS X dX8_init_11 pl_X8_15_X8 (hf) (Nat.le_of_ble_eq_true rfl) (rfl) (rfl) ?_
  refine J.vreturn X dX8_init_14 (jRv.of ?_)
  rfl
/-- a key as it lies -/
def kyO (s n : Nat) : va_E := jO 8 [.int (nI s), .int (nI n)]
theorem ky_told {K : JK} {l : Launch} {hE : JIH} (F : JF K) {a s n : Nat} (hf : hget hE a = some (kyO s n)) :
    Ct K l yX8_told wX8_told 0 [.ref a] hE (jRi (fun r h' => r = nI (100 * s + n) ∧ hE = h')) jNo := by
  refine st_X8_told (ls := [some (.ref a)]) F rfl (body := fun M X => ?_)
  refine J.bipush (v := nI 100) X dX8_told_0 (by decide) ?_
  refine J.aload0 X dX8_told_2 ?_
  refine J.getf X dX8_told_3 fl_X8_9_X8 (hf) rfl ?_
  refine J.imulN X dX8_told_6 ?_
  refine J.aload0 X dX8_told_7 ?_
  refine J.getf X dX8_told_8 fl_X8_15_X8 (hf) rfl ?_
  refine J.iaddN X dX8_told_11 ?_
  refine J.zreturn X dX8_told_12 (rfl) (jRi.of ?_)
  exact ⟨rfl, rfl⟩
theorem ky_hashCode {K : JK} {l : Launch} {hE : JIH} (F : JF K) {a s n : Nat} (hf : hget hE a = some (kyO s n)) :
    Ct K l yX8_hashCode wX8_hashCode 0 [.ref a] hE (jRi (fun r h' => r = nI (101 * s + n) ∧ hE = h')) jNo := by
  refine st_X8_hashCode (ls := [some (.ref a)]) F rfl (body := fun M X => ?_)
  refine J.bipush (v := nI 101) X dX8_hashCode_0 (by decide) ?_
  refine J.aload0 X dX8_hashCode_2 ?_
  refine J.getf X dX8_hashCode_3 fl_X8_9_X8 (hf) rfl ?_
  refine J.imulN X dX8_hashCode_6 ?_
  refine J.aload0 X dX8_hashCode_7 ?_
  refine J.getf X dX8_hashCode_8 fl_X8_15_X8 (hf) rfl ?_
  refine J.iaddN X dX8_hashCode_11 ?_
  refine J.zreturn X dX8_hashCode_12 (rfl) (jRi.of ?_)
  exact ⟨rfl, rfl⟩
theorem ky_equals {K : JK} {l : Launch} {hE : JIH} (F : JF K) {a s n b s' n' : Nat} (hf : hget hE a = some (kyO s n)) (hb : hget hE b = some (kyO s' n')) (hs : s < 1000) (hn : n < 1000) (hs' : s' < 1000) (hn' : n' < 1000) :
    Ct K l yX8_equals wX8_equals 0 [.ref a, .ref b] hE (jRi (fun r h' => r = jB (s' = s ∧ n' = n) ∧ hE = h')) jNo := by
  refine st_X8_equals (ls := [some (.ref a), some (.ref b), none]) F rfl (body := fun M X => ?_)
  refine J.aload1 X dX8_equals_0 ?_
  refine J.instS X dX8_equals_1 cl_X8_10 jcl_8 (hb) ?_
  refine J.topi (y := nI 1) rfl ?_
  refine J.if_eqN (tgt := 38) X dX8_equals_4 (by decide) (by omega) (fun q9 => absurd q9 (by omega)) (fun _ => ?_)
  refine J.aload1 X dX8_equals_7 ?_
  refine J.castS X dX8_equals_8 cl_X8_10 jcl_8 (hb) ?_
  refine J.astore2 X dX8_equals_11 ?_
  refine J.aload2 X dX8_equals_12 ?_
  refine J.getf X dX8_equals_13 fl_X8_9_X8 (hb) rfl ?_
  refine J.aload0 X dX8_equals_16 ?_
  refine J.getf X dX8_equals_17 fl_X8_9_X8 (hf) rfl ?_
  refine J.icmp_neN (tgt := 38) X dX8_equals_20 (by decide) (by omega) (by omega) (fun c1 => ?_) (fun c1 => ?_)
  · skip
    refine J.iconst (v := nI 0) X dX8_equals_38 (by decide) ?_
    refine J.zreturn X dX8_equals_39 (rfl) (jRi.of ?_)
    exact ⟨jB_0 (fun z => c1 z.1), rfl⟩
  · skip
    refine J.aload2 X dX8_equals_23 ?_
    refine J.getf X dX8_equals_24 fl_X8_15_X8 (hb) rfl ?_
    refine J.aload0 X dX8_equals_27 ?_
    refine J.getf X dX8_equals_28 fl_X8_15_X8 (hf) rfl ?_
    refine J.icmp_neN (tgt := 38) X dX8_equals_31 (by decide) (by omega) (by omega) (fun c2 => ?_) (fun c2 => ?_)
    · skip
      refine J.iconst (v := nI 0) X dX8_equals_38 (by decide) ?_
      refine J.zreturn X dX8_equals_39 (rfl) (jRi.of ?_)
      exact ⟨jB_0 (fun z => c2 z.2), rfl⟩
    · skip
      refine J.iconst (v := nI 1) X dX8_equals_34 (by decide) ?_
      refine J.goto (tgt := 39) X dX8_equals_35 (by decide) ?_
      refine J.zreturn X dX8_equals_39 (rfl) (jRi.of ?_)
      exact ⟨jB_1 ⟨c1, c2⟩, rfl⟩
theorem th_init {K : JK} {l : Launch} {hE : JIH} (F : JF K) {a : Nat} {x0 x1 x2 x3 x4 x5 : Value} (hf : hget hE a = some (jO 7 [x0, x1, x2, x3, x4, x5])) (v w c d : Int32) :
    Ct K l yX7_init_2 wX7_init_2 1 [.ref a, .int v, .int w, .int c, .int d] hE (jRv (fun h' => h' = hset hE a (jO 7 [.int v, .int w, .int c, x3, .int d, x5]))) jNo := by
  refine st_X7_init_2 (ls := [some (.ref a), some (.int v), some (.int w), some (.int c), some (.int d)]) F rfl (body := fun M X => ?_)
  refine J.fresh hf ?_
  refine J.aload0 X dX7_init_2_0 ?_
  refine J.objInit X dX7_init_2_1 lk_X7_1 (by decide) ?_
  refine J.aload0 X dX7_init_2_4 ?_
  refine J.iload1 X dX7_init_2_5 ?_
  refine J.putfS X dX7_init_2_6 (pl_X7_7_X7 _) (hf) (Nat.le_of_ble_eq_true rfl) (rfl) (rfl) ?_
  refine J.aload0 X dX7_init_2_9 ?_
  refine J.iload2 X dX7_init_2_10 ?_
  refine J.putfS X dX7_init_2_11 (pl_X7_13_X7 _) (hf) (Nat.le_of_ble_eq_true rfl) (rfl) (rfl) ?_
  refine J.aload0 X dX7_init_2_14 ?_
  refine J.iload3 X dX7_init_2_15 ?_
  refine J.putfS X dX7_init_2_16 (pl_X7_16_X7 _) (hf) (Nat.le_of_ble_eq_true rfl) (rfl) (rfl) ?_
  refine J.aload0 X dX7_init_2_19 ?_
  refine J.at (pc' := 20) rfl ?_
  refine J.iload4 X dX7_init_2_20 ?_
  refine J.putfS X dX7_init_2_22 (pl_X7_19_X7 _) (hf) (Nat.le_of_ble_eq_true rfl) (rfl) (rfl) ?_
  refine J.vreturn X dX7_init_2_25 (jRv.of ?_)
  rfl
theorem th_init1 {K : JK} {l : Launch} {hE : JIH} (F : JF K) {a : Nat} {x0 x1 x2 x3 x4 x5 : Value} (hf : hget hE a = some (jO 7 [x0, x1, x2, x3, x4, x5])) (w : Int32) :
    Ct K l yX7_init wX7_init 2 [.ref a, .int w] hE (jRv (fun h' => h' = hset hE a (jO 7 [.int (nI 0), .int w, .int (nI 0), x3, .int (nI 0), x5]))) jNo := by
  refine st_X7_init (ls := [some (.ref a), some (.int w)]) F rfl (body := fun M X => ?_)
  refine J.aload0 X dX7_init_0 ?_
  refine J.iconst (v := nI 0) X dX7_init_1 (by decide) ?_
  refine J.iload1 X dX7_init_2 ?_
  refine J.iconst (v := nI 0) X dX7_init_3 (by decide) ?_
  refine J.iconst (v := nI 0) X dX7_init_4 (by decide) ?_
  refine J.callI X dX7_init_5 lk_X7_22 ce_X7_init_2 (th_init F hf (nI 0) w (nI 0) (nI 0)) (by decide) rfl (fun h' e _ => ?_)
  subst e
  refine J.vreturn X dX7_init_8 (jRv.of ?_)
  rfl
theorem th_init3 {K : JK} {l : Launch} {hE : JIH} (F : JF K) {a b : Nat} {x0 x1 x2 x3 x4 x5 : Value} (hf : hget hE a = some (jO 7 [x0, x1, x2, x3, x4, x5])) {v w c ht d : Int32} {p : Nat} (hp : p < 2) (hb : hget hE b = some (jO 7 [.int v, .int w, .int c, .int ht, .int d, .int (nI p)])) (hab : a ≠ b) :
    Ct K l yX7_init_3 wX7_init_3 2 [.ref a, .ref b] hE (jRv (fun h' => h' = hset hE a (jO 7 [.int v, .int w, .int c, .int ht, .int d, .int (nI p)]))) jNo := by
  have hn : narrow .boolean (.int (nI p)) = .int (nI p) := by rcases (show p = 0 ∨ p = 1 by omega) with rfl | rfl <;> rfl
  have hft : fits .boolean (.int (nI p)) = true := by rcases (show p = 0 ∨ p = 1 by omega) with rfl | rfl <;> rfl
  refine st_X7_init_3 (ls := [some (.ref a), some (.ref b)]) F rfl (body := fun M X => ?_)
  refine J.aload0 X dX7_init_3_0 ?_
  refine J.aload1 X dX7_init_3_1 ?_
  refine J.getf X dX7_init_3_2 fl_X7_7_X7 (hb) rfl ?_
  refine J.aload1 X dX7_init_3_5 ?_
  refine J.getf X dX7_init_3_6 fl_X7_13_X7 (hb) rfl ?_
  refine J.aload1 X dX7_init_3_9 ?_
  refine J.getf X dX7_init_3_10 fl_X7_16_X7 (hb) rfl ?_
  refine J.aload1 X dX7_init_3_13 ?_
  refine J.getf X dX7_init_3_14 fl_X7_19_X7 (hb) rfl ?_
  refine J.callI X dX7_init_3_17 lk_X7_22 ce_X7_init_2 (th_init F hf v w c d) (by decide) rfl (fun h' e _ => ?_)
  subst e
  refine J.aload0 X dX7_init_3_20 ?_
  refine J.aload1 X dX7_init_3_21 ?_
  refine J.getf X dX7_init_3_22 fl_X7_25_X7 ((hget_set_ne _ hab).trans hb) rfl ?_
  refine J.putfS X dX7_init_3_25 (pl_X7_25_X7 _) (hf) (Nat.le_of_ble_eq_true rfl) (rfl) (rfl) ?_
  refine J.aload0 X dX7_init_3_28 ?_
  refine J.aload1 X dX7_init_3_29 ?_
  refine J.getf X dX7_init_3_30 fl_X7_28_X7 ((hget_set_ne _ hab).trans hb) rfl ?_
  refine J.putfS X dX7_init_3_33 (pl_X7_28_X7 _) (hf) (Nat.le_of_ble_eq_true rfl) (hn) (hft) ?_
  refine J.vreturn X dX7_init_3_36 (jRv.of ?_)
  rfl
theorem go_init {K : JK} {l : Launch} {hE : JIH} (F : JF K) {a k t : Nat} {x y : Value} (hf : hget hE a = some (jO 6 [x, y])) :
    Ct K l yX6_init wX6_init 1 [.ref a, .ref k, .ref t] hE (jRv (fun h' => h' = hset hE a (jO 6 [.ref k, .ref t]))) jNo := by
  refine st_X6_init (ls := [some (.ref a), some (.ref k), some (.ref t)]) F rfl (body := fun M X => ?_)
  refine J.fresh hf ?_
  refine J.aload0 X dX6_init_0 ?_
  refine J.objInit X dX6_init_1 lk_X6_1 (by decide) ?_
  refine J.aload0 X dX6_init_4 ?_
  refine J.aload1 X dX6_init_5 ?_
  refine J.putfS X dX6_init_6 pl_X6_7_X6 (hf) (Nat.le_of_ble_eq_true rfl) (rfl) (rfl) ?_
  refine J.aload0 X dX6_init_9 ?_
  refine J.aload2 X dX6_init_10 ?_
  refine J.putfS X dX6_init_11 pl_X6_13_X6 (hf) (Nat.le_of_ble_eq_true rfl) (rfl) (rfl) ?_
  refine J.vreturn X dX6_init_14 (jRv.of ?_)
  rfl
theorem cl_init {K : JK} {l : Launch} {hE : JIH} (F : JF K) {a k : Nat} {x y z : Value} (hf : hget hE a = some (jO 10 [x, y, z])) (s w : Int32) :
    Ct K l yX10_init_2 wX10_init_2 1 [.ref a, .int s, .ref k, .int w] hE (jRv (fun h' => h' = hset hE a (jO 10 [.int s, .int w, .ref k]))) jNo := by
  refine st_X10_init_2 (ls := [some (.ref a), some (.int s), some (.ref k), some (.int w)]) F rfl (body := fun M X => ?_)
  refine J.fresh hf ?_
  refine J.aload0 X dX10_init_2_0 ?_
  refine J.objInit X dX10_init_2_1 lk_X10_1 (by decide) ?_
  refine J.aload0 X dX10_init_2_4 ?_
  refine J.iload1 X dX10_init_2_5 ?_
  refine J.putfS X dX10_init_2_6 pl_X10_7_X10 (hf) (Nat.le_of_ble_eq_true rfl) (rfl) (rfl) ?_
  refine J.aload0 X dX10_init_2_9 ?_
  refine J.aload2 X dX10_init_2_10 ?_
  refine J.putfS X dX10_init_2_11 pl_X10_13_X10 (hf) (Nat.le_of_ble_eq_true rfl) (rfl) (rfl) ?_
  refine J.aload0 X dX10_init_2_14 ?_
  refine J.iload3 X dX10_init_2_15 ?_
  refine J.putfS X dX10_init_2_16 pl_X10_17_X10 (hf) (Nat.le_of_ble_eq_true rfl) (rfl) (rfl) ?_
  refine J.vreturn X dX10_init_2_19 (jRv.of ?_)
  rfl
theorem cl_init1 {K : JK} {l : Launch} {hE : JIH} (F : JF K) {a k : Nat} {x y z : Value} (hf : hget hE a = some (jO 10 [x, y, z])) (s : Int32) :
    Ct K l yX10_init wX10_init 2 [.ref a, .int s, .ref k] hE (jRv (fun h' => h' = hset hE a (jO 10 [.int s, .int (nI 0), .ref k]))) jNo := by
  refine st_X10_init (ls := [some (.ref a), some (.int s), some (.ref k)]) F rfl (body := fun M X => ?_)
  refine J.aload0 X dX10_init_0 ?_
  refine J.iload1 X dX10_init_1 ?_
  refine J.aload2 X dX10_init_2 ?_
  refine J.iconst (v := nI 0) X dX10_init_3 (by decide) ?_
  refine J.callI X dX10_init_4 lk_X10_20 ce_X10_init_2 (cl_init F hf s (nI 0)) (by decide) rfl (fun h' e _ => ?_)
  subst e
  refine J.vreturn X dX10_init_7 (jRv.of ?_)
  rfl
