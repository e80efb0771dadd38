/-! SegmentedCache: get, drop, pin -/
def gget (fu : Nat) (g : GA) (s m : Int32) (r : Int64) (g' : GA) : Prop :=
  (¬ tkey s m ∧ r = tNO ∧ g' = g) ∨ (tkey s m ∧ ∃ a b k, a ≤ 3 ∧ b ≤ 99 ∧ s = nI a ∧ m = nI b ∧ k = 100 * a + b ∧ ((¬ athing g.x.1 k ∧ r = tNO ∧ g' = g.wx (g.x.1, agetC g.x.1 g.x.2.1 k, g.x.2.2)) ∨ (athing g.x.1 k ∧ ∃ s' gs, atrim (g.x.2.1 0) (g.x.2.1 1) fu (ahit g.x.1 (g.x.2.1 2) k) s' gs ∧ r = (g.x.1.2.1 k).toInt64 ∧ g' = g.wx (s', va_up (agetC g.x.1 g.x.2.1 k) 9 (g.x.2.1 9 + gs.length), (gs ++ g.x.2.2).take 20))))
theorem x_get {K : JK} {l : Launch} {hE : JIH} {o : Nat} {p : GP} {g : GA} {tz tzi : Nat}  (F : JF K) (S : GX K hE o p g tz tzi) {PL : List Nat} (hp : TP g.x.1 PL) {fu : Nat} {s m : Int32} {r : Int64} {g' : GA} (hf : gget fu g s m r g') (rm : RM hE tz ((Phi g.x.1 + 9) * cst PL.length + 10)) :
    Ct K l yX0_get wX0_get 12 [.ref o, .int s, .int m] hE (jRl (fun r0 h' => r0 = r ∧ (∃ tz', GX K h' o p g' tz' tzi ∧ hres h' + tz + Phi g'.x.1 * cst PL.length ≤ hres hE + ((Phi g.x.1 + 6) * cst PL.length + 10) + tz') ∧ Fr n5 hE h')) jNo := by
  refine st_X0_get (ls := [some (.ref o), some (.int s), some (.int m), none]) F rfl (body := fun M X => ?_)
  have so := S.o.1
  refine J.iload1 X dX0_get_0 ?_
  refine J.iload2 X dX0_get_1 ?_
  refine J.callSi X dX0_get_2 lk_X0_129 ce_X0_isKey (x_isKey F s m) (by decide) rfl (fun r0 h' e _ => ?_)
  obtain ⟨rfl, rfl⟩ := e
  have hmul := Nat.mul_le_mul_right (cst PL.length) (Nat.le_add_right (Phi g.x.1) 6)
  rcases hf with ⟨k1, rfl, rfl⟩ | ⟨k1, a, b, k, ha, hb, rfl, rfl, hk, hf⟩
  · skip
    refine J.if_neB (tgt := 12) X dX0_get_5 (by decide) (fun q9 => absurd q9 (k1)) (fun _ => ?_)
    refine J.ldc2 (v := (-9223372036854775808)) X dX0_get_8 q2069 ?_
    refine J.lreturn X dX0_get_11 (jRl.of ?_)
    exact ⟨rfl, ⟨tz, S, by omega⟩, Fr.rf _ _⟩
  have hB := S.bc
  have h09 := hB.1.2
  have h0 := hB.2.1
  have h2 := hB.2.2.1
  refine J.if_neB (tgt := 12) X dX0_get_5 (by decide) (fun _ => ?_) (fun q9 => absurd q9 (fun z => z k1))
  refine J.aload0 X dX0_get_12 ?_
  refine J.getf X dX0_get_13 fl_X0_18_X0 (so) rfl ?_
  obtain ⟨ta, D, S1⟩ := S.cc
  have r8 := S1.rm8 rm
  refine J.new (ci := 8) (1) X dX0_get_16 jcl_8 cl_X0_43 rfl ((by show _ + (8 + 2) ≤ _; omega)) ?_
  refine J.dup X dX0_get_19 ?_
  refine J.iload1 X dX0_get_20 ?_
  refine J.iload2 X dX0_get_21 ?_
  refine J.callI X dX0_get_22 lk_X0_133 ce_X8_init (ky_init F (hget_push_new _ _ _) (nI a) (nI b)) (by decide) rfl (fun h1 e _ => ?_)
  subst e
  rw [hset_push_new]
  obtain ⟨S2, gk, f1, e1⟩ := S.key ha hb hk
  show J M (hpush hE 1 (kyO a b)) _ _ _
  generalize hpush hE 1 (kyO a b) = h1 at S2 f1 e1 gk
  clear S1
  obtain ⟨ta, D, S1⟩ := S2.cc
  have co := S1.o.1
  have hA := S1.aw
  rcases hf with ⟨hn, rfl, rfl⟩ | ⟨hn, s', gs, hT, rfl, rfl⟩
  · skip
    refine J.callVa X dX0_get_25 lk_X0_142_X1 ce_X1_gets (k_gets0 F S1 gk hn) (by decide) rfl (co) rfl (fun r0 h2 e _ => ?_)
    obtain ⟨rfl, S3, cf⟩ := e
    refine J.astore3 X dX0_get_28 ?_
    refine J.aload3 X dX0_get_29 ?_
    refine J.ifnonnullN (a := 0) (tgt := 39) X dX0_get_30 (by decide) ?_
    refine J.ldc2 (v := (-9223372036854775808)) X dX0_get_33 q2069 ?_
    refine J.goto (tgt := 44) X dX0_get_36 (by decide) ?_
    refine J.lreturn X dX0_get_44 (jRl.of ?_)
    refine ⟨rfl, ⟨tz, S2.up0 cf.1.1 (fun z hz => Or.inl hz) ⟨ta, D, S3⟩ (hB.get _ _), ?_⟩, f1.tr (cf.1.1.mono (fun z hz => CT.n5 hz (Or.inl rfl)))⟩
    have := cf.2
    show hres h2 + tz + Phi g.x.1 * cst PL.length ≤ _
    omega
  · have hph := Phi.hit (ris := g.x.2.1 2) hA hn
    have h6 := Nat.mul_le_mul_right (cst PL.length) hph
    have h7 : (Phi g.x.1 + 1) * cst PL.length + 8 * cst PL.length = (Phi g.x.1 + 9) * cst PL.length := by rw [← Nat.add_mul]
    have h8 : (Phi g.x.1 + 1) * cst PL.length + 5 * cst PL.length = (Phi g.x.1 + 6) * cst PL.length := by rw [← Nat.add_mul]
    have rm2 : RM h1 tz (Phi (ahit g.x.1 (g.x.2.1 2) k) * cst PL.length + 8 * cst PL.length) := by
      unfold RM at rm ⊢
      omega
    refine J.callVa X dX0_get_25 lk_X0_142_X1 ce_X1_gets (k_gets F S1 (by omega) (by omega) (by omega) gk ((hp.hit hn).np (hA.hit hn)) (fun _ => hT) rm2) (by decide) rfl (co) rfl (fun r0 h2 e _ => ?_)
    rcases e with ⟨z, -⟩ | ⟨-, tt, fs', ta', D', tz', rfl, ct, S3, cg, -⟩
    · exact absurd hn z
    refine J.astore3 X dX0_get_28 ?_
    refine J.aload3 X dX0_get_29 ?_
    refine J.ifnonnullR (tgt := 39) X dX0_get_30 (by decide) ?_
    refine J.aload3 X dX0_get_39 ?_
    refine J.getf X dX0_get_40 fl_X0_146_X7 (ct.1) rfl ?_
    refine J.i2l X dX0_get_43 ?_
    refine J.lreturn X dX0_get_44 (jRl.of ?_)
    refine ⟨rfl, ⟨tz', S2.up0 cg.1.1 (fun z hz => Or.inl hz) ⟨ta', D', S3⟩ ((hB.get _ _).up (by decide) _), ?_⟩, f1.tr (cg.1.1.mono (fun z hz => CT.n5 hz (Or.inl rfl)))⟩
    have := cg.2
    show hres h2 + tz + Phi s' * cst PL.length ≤ _
    omega
def gdrop (g : GA) (s m : Int32) (r : Int32) (g' : GA) : Prop :=
  (¬ tkey s m ∧ r = -1 ∧ g' = g) ∨ (tkey s m ∧ ∃ a b k, a ≤ 3 ∧ b ≤ 99 ∧ s = nI a ∧ m = nI b ∧ k = 100 * a + b ∧ r = nI (awhere g.x.1 k) ∧ g' = g.wx (adrop g.x.1 k, g.x.2.1, g.x.2.2))
theorem x_drop {K : JK} {l : Launch} {hE : JIH} {o : Nat} {p : GP} {g : GA} {tz tzi : Nat}  (F : JF K) (S : GX K hE o p g tz tzi) {s m : Int32} {r : Int32} {g' : GA} (hf : gdrop g s m r g') (rm : RM hE tz 10) :
    Ct K l yX0_drop wX0_drop 12 [.ref o, .int s, .int m] hE (jRi (fun r0 h' => r0 = r ∧ GX K h' o p g' tz tzi ∧ hres h' ≤ hres hE + 10 ∧ Fr n5 hE h')) jNo := by
  refine st_X0_drop (ls := [some (.ref o), some (.int s), some (.int m)]) F rfl (body := fun M X => ?_)
  have so := S.o.1
  refine J.iload1 X dX0_drop_0 ?_
  refine J.iload2 X dX0_drop_1 ?_
  refine J.callSi X dX0_drop_2 lk_X0_129 ce_X0_isKey (x_isKey F s m) (by decide) rfl (fun r0 h' e _ => ?_)
  obtain ⟨rfl, rfl⟩ := e
  rcases hf with ⟨k1, rfl, rfl⟩ | ⟨k1, a, b, k, ha, hb, rfl, rfl, hk, rfl, rfl⟩
  · skip
    refine J.if_eqB (tgt := 27) X dX0_drop_5 (by decide) (fun _ => ?_) (fun q9 => absurd q9 (k1))
    refine J.iconst (v := -1) X dX0_drop_27 (by decide) ?_
    refine J.zreturn X dX0_drop_28 (rfl) (jRi.of ?_)
    exact ⟨rfl, S, by omega, Fr.rf _ _⟩
  have hB := S.bc
  refine J.if_eqB (tgt := 27) X dX0_drop_5 (by decide) (fun q9 => absurd q9 (fun z => z k1)) (fun _ => ?_)
  refine J.aload0 X dX0_drop_8 ?_
  refine J.getf X dX0_drop_9 fl_X0_18_X0 (so) rfl ?_
  obtain ⟨ta, D, S1⟩ := S.cc
  have r8 := S1.rm8 rm
  refine J.new (ci := 8) (1) X dX0_drop_12 jcl_8 cl_X0_43 rfl ((by show _ + (8 + 2) ≤ _; omega)) ?_
  refine J.dup X dX0_drop_15 ?_
  refine J.iload1 X dX0_drop_16 ?_
  refine J.iload2 X dX0_drop_17 ?_
  refine J.callI X dX0_drop_18 lk_X0_133 ce_X8_init (ky_init F (hget_push_new _ _ _) (nI a) (nI b)) (by decide) rfl (fun h1 e _ => ?_)
  subst e
  rw [hset_push_new]
  obtain ⟨S2, gk, f1, e1⟩ := S.key ha hb hk
  show J M (hpush hE 1 (kyO a b)) _ _ _
  generalize hpush hE 1 (kyO a b) = h1 at S2 f1 e1 gk
  clear S1
  obtain ⟨ta, D, S1⟩ := S2.cc
  have co := S1.o.1
  refine J.callVi X dX0_drop_21 lk_X0_151_X1 ce_X1_drops (k_drops F S1 gk) (by decide) rfl (co) rfl (fun r0 h2 e _ => ?_)
  obtain ⟨rfl, S3, cf⟩ := e
  refine J.goto (tgt := 28) X dX0_drop_24 (by decide) ?_
  refine J.zreturn X dX0_drop_28 (rfl) (jRi.of ?_)
  refine ⟨rfl, S2.up0 cf.1.1 (fun z hz => Or.inl hz) ⟨ta, D, S3⟩ hB, ?_, f1.tr (cf.1.1.mono (fun z hz => CT.n5 hz (Or.inl rfl)))⟩
  have := cf.2
  omega
theorem nar_b {p : Nat} (h : p ≤ 1) : narrow .boolean (.int (nI p)) = .int (nI p) := by
  rcases (show p = 0 ∨ p = 1 by omega) with rfl | rfl <;> decide
def gpin (g : GA) (s m : Int32) (v : Nat) (r : Int32) (g' : GA) : Prop :=
  (¬ tkey s m ∧ r = -1 ∧ g' = g) ∨ (tkey s m ∧ ∃ a b k, a ≤ 3 ∧ b ≤ 99 ∧ s = nI a ∧ m = nI b ∧ k = 100 * a + b ∧ ((¬ athing g.x.1 k ∧ r = -3 ∧ g' = g) ∨ (athing g.x.1 k ∧ r = nI (g.x.1.2.2 4 k) ∧ g' = g.wx (upV g.x.1 4 k v, g.x.2.1, g.x.2.2))))
theorem x_pin {K : JK} {l : Launch} {hE : JIH} {o : Nat} {p : GP} {g : GA} {tz tzi : Nat}  (F : JF K) (S : GX K hE o p g tz tzi) {s m : Int32} {v : Nat} (hv : v ≤ 1) {r : Int32} {g' : GA} (hf : gpin g s m v r g') (rm : RM hE tz 10) :
    Ct K l yX0_pin wX0_pin 12 [.ref o, .int s, .int m, .int (nI v)] hE (jRi (fun r0 h' => r0 = r ∧ GX K h' o p g' tz tzi ∧ hres h' ≤ hres hE + 10 ∧ Fr n5 hE h')) jNo := by
  refine st_X0_pin (ls := [some (.ref o), some (.int s), some (.int m), some (.int (nI v)), none, none]) F rfl (body := fun M X => ?_)
  have so := S.o.1
  refine J.iload1 X dX0_pin_0 ?_
  refine J.iload2 X dX0_pin_1 ?_
  refine J.callSi X dX0_pin_2 lk_X0_129 ce_X0_isKey (x_isKey F s m) (by decide) rfl (fun r0 h' e _ => ?_)
  obtain ⟨rfl, rfl⟩ := e
  rcases hf with ⟨k1, rfl, rfl⟩ | ⟨k1, a, b, k, ha, hb, rfl, rfl, hk, hf⟩
  · skip
    refine J.if_neB (tgt := 10) X dX0_pin_5 (by decide) (fun q9 => absurd q9 (k1)) (fun _ => ?_)
    refine J.iconst (v := -1) X dX0_pin_8 (by decide) ?_
    refine J.zreturn X dX0_pin_9 (rfl) (jRi.of ?_)
    exact ⟨rfl, S, by omega, Fr.rf _ _⟩
  have hB := S.bc
  refine J.if_neB (tgt := 10) X dX0_pin_5 (by decide) (fun _ => ?_) (fun q9 => absurd q9 (fun z => z k1))
  refine J.aload0 X dX0_pin_10 ?_
  refine J.getf X dX0_pin_11 fl_X0_18_X0 (so) rfl ?_
  obtain ⟨ta, D, S1⟩ := S.cc
  have r8 := S1.rm8 rm
  refine J.new (ci := 8) (1) X dX0_pin_14 jcl_8 cl_X0_43 rfl ((by show _ + (8 + 2) ≤ _; omega)) ?_
  refine J.dup X dX0_pin_17 ?_
  refine J.iload1 X dX0_pin_18 ?_
  refine J.iload2 X dX0_pin_19 ?_
  refine J.callI X dX0_pin_20 lk_X0_133 ce_X8_init (ky_init F (hget_push_new _ _ _) (nI a) (nI b)) (by decide) rfl (fun h1 e _ => ?_)
  subst e
  rw [hset_push_new]
  obtain ⟨S2, gk, f1, e1⟩ := S.key ha hb hk
  show J M (hpush hE 1 (kyO a b)) _ _ _
  generalize hpush hE 1 (kyO a b) = h1 at S2 f1 e1 gk
  clear S1
  obtain ⟨ta, D, S1⟩ := S2.cc
  have co := S1.o.1
  have hA := S1.aw
  rcases hf with ⟨hn, rfl, rfl⟩ | ⟨hn, rfl, rfl⟩
  · skip
    refine J.callVNa X dX0_pin_23 lk_X0_155_X1 ce_X1_thing (k_thing F S1 gk) (by decide) rfl (co) rfl (fun r0 h2 e _ => ?_)
    obtain ⟨rfl, rfl⟩ := e
    rw [if_neg (show ¬ (k ∈ g'.x.1.1 1 ∨ k ∈ g'.x.1.1 2) from hn)]
    refine J.astore4 X dX0_pin_26 ?_
    refine J.aload4 X dX0_pin_28 ?_
    refine J.ifnonnullN (a := 0) (tgt := 36) X dX0_pin_30 (by decide) ?_
    refine J.bipush (v := -3) X dX0_pin_33 (by decide) ?_
    refine J.zreturn X dX0_pin_35 (rfl) (jRi.of ?_)
    exact ⟨rfl, S2, by omega, f1⟩
  · have hi : ∃ i, aq i ∧ k ∈ g.x.1.1 i := hn.elim (fun z => ⟨1, aq1, z⟩) (fun z => ⟨2, aq2, z⟩)
    obtain ⟨i, hi, hki⟩ := hi
    have kD := S1.dm hi hki
    have ct := S1.th kD
    have ok := hA.aok hi hki
    have h41 := ok.2.2.2.2.2.1
    have n3 : k ∉ g.x.1.1 3 := fun z => hn.elim (fun q => absurd (hA.1 3 1 k aq3 aq1 z q) (by decide)) (fun q => absurd (hA.1 3 2 k aq3 aq2 z q) (by decide))
    have n4 : k ∉ g.x.1.1 4 := fun z => hn.elim (fun q => absurd (hA.1 4 1 k aq4 aq1 z q) (by decide)) (fun q => absurd (hA.1 4 2 k aq4 aq2 z q) (by decide))
    have A' : AW (upV g.x.1 4 k v) := hA.V (Or.inr (Or.inr (Or.inr (Or.inr ⟨rfl, hv, n3, n4⟩))))
    obtain ⟨S3, cf⟩ := S1.wv (s' := upV g.x.1 4 k v) kD rfl (fun _ _ => rfl) (fun i j hj => by rw [upV_2, if_neg (fun z => hj z.2)]) (upV_ne k (by decide)) rfl A'
    refine J.callVNa X dX0_pin_23 lk_X0_155_X1 ce_X1_thing (k_thing F S1 gk) (by decide) rfl (co) rfl (fun r0 h2 e _ => ?_)
    obtain ⟨rfl, rfl⟩ := e
    rw [if_pos (show k ∈ g.x.1.1 1 ∨ k ∈ g.x.1.1 2 from hn)]
    refine J.astore4 X dX0_pin_26 ?_
    refine J.aload4 X dX0_pin_28 ?_
    refine J.ifnonnullR (tgt := 36) X dX0_pin_30 (by decide) ?_
    have fin : ∀ w : Nat, w = g.x.1.2.2 4 k → J M h1 51 [some (.ref o), some (.int (nI a)), some (.int (nI b)), some (.int (nI v)), some (.ref (ta k)), some (.int (nI w))] [] := fun w hw => by
      refine J.aload4 X dX0_pin_51 ?_
      refine J.iload3 X dX0_pin_53 ?_
      refine J.putf X dX0_pin_54 (pl_X0_158_X7 _) (ct.1) (Nat.le_of_ble_eq_true rfl) (nar_b hv) (fits_b (by omega)) ?_
      refine J.iload5 X dX0_pin_57 ?_
      refine J.zreturn X dX0_pin_59 (rfl) (jRi.of ?_)
      rw [hw]
      have eh : hset h1 (ta k) (jO 7 ((thO g.x.1 k).set 5 (.int (nI v)))) = hset h1 (ta k) (jO 7 (thO (upV g.x.1 4 k v) k)) := by
        unfold thO
        rw [upV_ne k (by decide), upV_ne k (by decide), upV_ne k (by decide), upV_ne k (by decide), upV_at, if_pos rfl]
        rfl
      rw [eh]
      refine ⟨rfl, S2.up0 cf.1.1 (fun z hz => Or.inl hz) ⟨ta, D, S3⟩ hB, ?_, f1.tr (cf.1.1.mono (fun z hz => CT.n5 hz (Or.inl rfl)))⟩
      have := cf.2
      omega
    refine J.aload4 X dX0_pin_36 ?_
    refine J.getf X dX0_pin_38 fl_X0_158_X7 (ct.1) rfl ?_
    refine J.if_eqN (tgt := 48) X dX0_pin_41 (by decide) (by omega) (fun c1 => ?_) (fun c1 => ?_)
    · skip
      refine J.iconst (v := nI 0) X dX0_pin_48 (by decide) ?_
      refine J.istore5 X dX0_pin_49 ?_
      exact fin 0 c1.symm
    · skip
      refine J.iconst (v := nI 1) X dX0_pin_44 (by decide) ?_
      refine J.goto (tgt := 49) X dX0_pin_45 (by decide) ?_
      refine J.istore5 X dX0_pin_49 ?_
      exact fin 1 (by omega)
