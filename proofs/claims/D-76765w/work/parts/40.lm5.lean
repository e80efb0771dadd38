/-! LinkedHashMap: the table grows -/
theorem nodup_lt {l : List Nat} {N : Nat} (h : l.Nodup) (g : ∀ x ∈ l, x < N) : l.length ≤ N := by
  have := h.length_le_of_subset (l₂ := List.range N) (fun x hx => List.mem_range.mpr (g x hx))
  rwa [List.length_range] at this
def lob (n k : Nat) : Bool := decide (hsh k / n % 2 = 0)
theorem bit_lo (k q : Nat) : (nI (hsh k) &&& nI (2 ^ q)) = nI (if lob (2 ^ q) k = true then 0 else 2 ^ q) := by
  rw [nI_and]
  congr 1
  have h1 : (hsh k).testBit q = !lob (2 ^ q) k := by
    rw [Nat.testBit_eq_decide_div_mod_eq]
    unfold lob
    have : hsh k / 2 ^ q % 2 < 2 := Nat.mod_lt _ (by decide)
    rcases (show hsh k / 2 ^ q % 2 = 0 ∨ hsh k / 2 ^ q % 2 = 1 by omega) with e | e <;> simp [e]
  apply Nat.eq_of_testBit_eq
  intro i
  rw [Nat.testBit_and, Nat.testBit_two_pow]
  by_cases e : q = i
  · subst e
    rw [h1]
    cases lob (2 ^ q) k
    · simp [Nat.testBit_two_pow]
    · simp
  · rw [decide_eq_false e, Bool.and_false]
    cases lob (2 ^ q) k
    · simp [Nat.testBit_two_pow, e]
    · simp
/-- a chain whose last may lead anywhere -/
def ChO (nx : Nat → Option Nat) (L : List Nat) : Prop := ∀ z, lst none L = some z → Chn (va_up nx z none) L.head? L
theorem ChO.congr {nx nx' : Nat → Option Nat} {L : List Nat} (h : ChO nx L) (g : ∀ x ∈ L, nx' x = nx x) : ChO nx' L := by
  intro z hz
  refine (h z hz).congr fun x hx => ?_
  by_cases e : x = z
  · rw [e, va_up_self, va_up_self]
  · rw [va_up_ne _ _ e, va_up_ne _ _ e, g x hx]
theorem ChO.one (nx : Nat → Option Nat) (x : Nat) : ChO nx [x] := by
  intro z hz
  cases hz
  exact ⟨rfl, va_up_self _ _ _⟩
theorem ChO.add {nx : Nat → Option Nat} {L : List Nat} {x z : Nat} (h : ChO nx L) (hn : L.Nodup) (hx : x ∉ L) (hz : lst none L = some z) : ChO (va_up nx z (some x)) (L ++ [x]) := by
  intro w hw
  rw [lst_app] at hw
  cases hw
  have hzL := lst_in hz
  have hzx : z ≠ x := fun e => hx (e ▸ hzL)
  have h1 := Chn.add (nx' := va_up (va_up nx z (some x)) x none) (k := x) (h z hz) hn hz (va_up_self _ _ _) (fun y hy hyz => by rw [va_up_ne _ _ (fun e => hx (by rw [← e]; exact hy)), va_up_ne _ _ hyz, va_up_ne _ _ hyz]) (by rw [va_up_ne _ _ hzx, va_up_self])
  have h2 : (L ++ [x]).head? = L.head? := by
    cases L with
    | nil => cases hz
    | cons a r => rfl
  rw [h2]; exact h1
theorem ChO.nil (nx : Nat → Option Nat) : ChO nx [] := fun z hz => by cases hz
def RzI (ea : Nat → Nat) (B : Nat → List Nat) (n j : Nat) (nx' f0 f' : Nat → Option Nat) : Prop :=
  (∀ i, j ≤ i → i < n → f0 i = ((B i).head?).map ea ∧ Chn nx' (B i).head? (B i)) ∧
  (∀ i, i < j → (f' i = (((B i).filter (lob n)).head?).map ea ∧ Chn nx' ((B i).filter (lob n)).head? ((B i).filter (lob n))) ∧ (f' (i + n) = (((B i).filter (fun k => !lob n k)).head?).map ea ∧ Chn nx' ((B i).filter (fun k => !lob n k)).head? ((B i).filter (fun k => !lob n k)))) ∧
  (∀ i, j ≤ i → i < n → f' i = none ∧ f' (i + n) = none)
theorem RzI.step {ea : Nat → Nat} {B : Nat → List Nat} {n j : Nat} {nx' f0 f' nx2 f02 f2 : Nat → Option Nat} (h : RzI ea B n j nx' f0 f') (hj : j < n) (hB : ∀ i i' x, i < n → i' < n → x ∈ B i → x ∈ B i' → i = i') (h1 : ∀ x, x ∉ B j → nx2 x = nx' x) (h2 : ∀ i, i ≠ j → f02 i = f0 i) (h3 : ∀ i, i ≠ j → i ≠ j + n → f2 i = f' i)
    (h4 : f2 j = (((B j).filter (lob n)).head?).map ea) (h5 : Chn nx2 ((B j).filter (lob n)).head? ((B j).filter (lob n))) (h6 : f2 (j + n) = (((B j).filter (fun k => !lob n k)).head?).map ea) (h7 : Chn nx2 ((B j).filter (fun k => !lob n k)).head? ((B j).filter (fun k => !lob n k))) : RzI ea B n (j + 1) nx2 f02 f2 := by
  refine ⟨fun i hi hin => ?_, fun i hi => ?_, fun i hi hin => ?_⟩
  · have := h.1 i (by omega) hin
    rw [h2 i (by omega)]
    exact ⟨this.1, this.2.congr fun x hx => h1 x fun z => absurd (hB i j x hin hj hx z) (by omega)⟩
  · by_cases e : i = j
    · subst e; exact ⟨⟨h4, h5⟩, h6, h7⟩
    · have := h.2.1 i (by omega)
      have hd : ∀ x ∈ B i, nx2 x = nx' x := fun x hx => h1 x fun z => absurd (hB i j x (by omega) hj hx z) e
      rw [h3 i e (by omega), h3 (i + n) (by omega) (by omega)]
      exact ⟨⟨this.1.1, this.1.2.congr fun x hx => hd x (List.mem_filter.mp hx).1⟩, this.2.1, this.2.2.congr fun x hx => hd x (List.mem_filter.mp hx).1⟩
  · have := h.2.2 i (by omega) hin
    rw [h3 i (by omega) (by omega), h3 (i + n) (by omega) (by omega)]
    exact this
theorem RzI.fin {Q : List Nat} {ea : Nat → Nat} {nx f : Nat → Option Nat} {B : Nat → List Nat} {n : Nat} {nx' f0 f' : Nat → Option Nat} (h : RzI ea B n n nx' f0 f') (hn : 0 < n) (hB : Bn Q ea nx n f B) : ∃ B', Bn Q ea nx' (2 * n) f' B' := by
  refine ⟨fun i => if i < n then (B i).filter (lob n) else (B (i - n)).filter (fun k => !lob n k), fun i hi => ?_⟩
  have hm : ∀ k, hsh k % (2 * n) = hsh k % n + n * (hsh k / n % 2) := fun k => by rw [Nat.mul_comm 2 n, Nat.mod_mul]
  have hl : ∀ k, hsh k % n < n := fun k => Nat.mod_lt _ hn
  by_cases c : i < n
  · show _ = Option.map ea (if i < n then _ else _ : List Nat).head? ∧ Chn nx' (if i < n then _ else _ : List Nat).head? (if i < n then _ else _) ∧ (if i < n then _ else _ : List Nat).Nodup ∧ ∀ k, k ∈ (if i < n then _ else _ : List Nat) ↔ _
    rw [if_pos c]
    obtain ⟨-, -, hbn, hmem⟩ := hB i c
    have h1 := (h.2.1 i c).1
    refine ⟨h1.1, h1.2, hbn.filter _, fun k => ?_⟩
    rw [List.mem_filter, hmem, hm]
    unfold lob
    have := hl k
    rcases (show hsh k / n % 2 = 0 ∨ hsh k / n % 2 = 1 by omega) with e | e
    · rw [e]; simp
    · rw [e]; simp
      intro _
      omega
  · show _ = Option.map ea (if i < n then _ else _ : List Nat).head? ∧ Chn nx' (if i < n then _ else _ : List Nat).head? (if i < n then _ else _) ∧ (if i < n then _ else _ : List Nat).Nodup ∧ ∀ k, k ∈ (if i < n then _ else _ : List Nat) ↔ _
    rw [if_neg c]
    obtain ⟨-, -, hbn, hmem⟩ := hB (i - n) (by omega)
    have h1 := (h.2.1 (i - n) (by omega)).2
    rw [show i - n + n = i by omega] at h1
    refine ⟨h1.1, h1.2, hbn.filter _, fun k => ?_⟩
    rw [List.mem_filter, hmem, hm]
    unfold lob
    have := hl k
    rcases (show hsh k / n % 2 = 0 ∨ hsh k / n % 2 = 1 by omega) with e | e
    · rw [e]; simp
      intro _
      omega
    · rw [e]; simp
      exact fun _ => by omega
theorem shl1 {q : Nat} (h1 : 4 ≤ q) (h2 : q ≤ 9) : nI (2 ^ q) <<< (nI 1 &&& 31) = nI (2 * 2 ^ q) := by
  rcases (show q = 4 ∨ q = 5 ∨ q = 6 ∨ q = 7 ∨ q = 8 ∨ q = 9 by omega) with rfl | rfl | rfl | rfl | rfl | rfl <;> decide
theorem shl2 {q th : Nat} (h1 : 4 ≤ q) (h2 : q ≤ 9) (h : 4 * th = 3 * 2 ^ q) : nI th <<< (nI 1 &&& 31) = nI (2 * th) := by
  rcases (show q = 4 ∨ q = 5 ∨ q = 6 ∨ q = 7 ∨ q = 8 ∨ q = 9 by omega) with rfl | rfl | rfl | rfl | rfl | rfl
  · obtain rfl : th = 12 := by omega
    decide
  · obtain rfl : th = 24 := by omega
    decide
  · obtain rfl : th = 48 := by omega
    decide
  · obtain rfl : th = 96 := by omega
    decide
  · obtain rfl : th = 192 := by omega
    decide
  · obtain rfl : th = 384 := by omega
    decide
/-- the first table -/
theorem lm_resize0 {K : JK} {l : Launch} {hE : JIH} {t m : Nat} {D : List Nat} {ea : Nat → Nat} {ka : Nat → Nat} {ta : Nat → Nat} {nx : Nat → Option Nat} {bf : Nat → Option Nat} {af : Nat → Option Nat} {n : Nat} {f : Nat → Option Nat} {es : Option Nat} {ks : Option Nat} {vs : Option Nat} {sz : Nat} {mc : Int32} {lf : Value} {hd : Option Nat} {tl : Option Nat} (F : JF K) (T : LmR K t hE m D ea ka ta nx bf af (none) n f es ks vs sz mc (0) lf hd tl) (hr : hres hE + 24 ≤ jRL) :
    Ct K l yJ1_resize wJ1_resize 0 [.ref m] hE (jRa (fun r h' => ∃ a, r = some a ∧ LmS K t 24 hE h' m D ea ka ta nx bf af (some a) (16) (fun _ => none) es ks vs sz mc (12) lf hd tl)) jNo := by
  refine st_J1_resize (ls := [some (.ref m), none, none, none, none, none, none, none, none, none, none, none, none, none]) F rfl (body := fun M X => ?_)
  have S := T.S
  refine J.aload0 X dJ1_resize_0 ?_
  refine J.getf X dJ1_resize_1 fl_J1_105_J2 (S.o) rfl ?_
  refine J.astore1 X dJ1_resize_4 ?_
  refine J.aload1 X dJ1_resize_5 ?_
  refine J.ifnonnullN (a := 0) (tgt := 13) X dJ1_resize_6 (by decide) ?_
  refine J.iconst (v := nI 0) X dJ1_resize_9 (by decide) ?_
  refine J.goto (tgt := 15) X dJ1_resize_10 (by decide) ?_
  refine J.istore2 X dJ1_resize_15 ?_
  refine J.aload0 X dJ1_resize_16 ?_
  refine J.getf X dJ1_resize_17 fl_J1_88_J2 (S.o) rfl ?_
  refine J.istore3 X dJ1_resize_20 ?_
  refine J.iconst (v := nI 0) X dJ1_resize_21 (by decide) ?_
  refine J.istore5 X dJ1_resize_22 ?_
  refine J.iload2 X dJ1_resize_24 ?_
  refine J.if_leN (tgt := 67) X dJ1_resize_25 (by decide) (by omega) (fun _ => ?_) (fun q9 => absurd q9 (by omega))
  refine J.iload3 X dJ1_resize_67 ?_
  refine J.if_leN (tgt := 77) X dJ1_resize_68 (by decide) (by omega) (fun _ => ?_) (fun q9 => absurd q9 (by omega))
  refine J.bipush (v := nI 16) X dJ1_resize_77 (by decide) ?_
  refine J.istore4 X dJ1_resize_79 ?_
  refine J.bipush (v := nI 12) X dJ1_resize_81 (by decide) ?_
  refine J.istore5 X dJ1_resize_83 ?_
  refine J.iload5 X dJ1_resize_85 ?_
  refine J.if_neN (tgt := 125) X dJ1_resize_87 (by decide) (by omega) (fun _ => ?_) (fun q9 => absurd q9 (by omega))
  refine J.aload0 X dJ1_resize_125 ?_
  refine J.iload5 X dJ1_resize_126 ?_
  refine J.lm_th (x := 12) X dJ1_resize_128 (pl_J1_88_J2 _) S rfl (fun h S => ?_)
  refine J.iload4 X dJ1_resize_131 ?_
  have hr2 : hres h + (8 + 16) ≤ jRL := by rw [S.2.2]; omega
  refine J.newR (tt := 6) (n := 16) t X dJ1_resize_133 cl_J1_163 q1774 rfl rfl (by decide) hr2 ?_
  have cn := hc.new h t (jAR K 6 16 (fun _ => none))
  replace S := S.push t (jAR K 6 16 (fun _ => none))
  refine J.astore6 X dJ1_resize_136 ?_
  refine J.aload0 X dJ1_resize_138 ?_
  refine J.aload6 X dJ1_resize_139 ?_
  refine J.lm_tb X dJ1_resize_141 (pl_J1_105_J2 _) S cn (fun h S _ => ?_)
  refine J.aload1 X dJ1_resize_144 ?_
  refine J.ifnullN (a := 0) (tgt := 353) X dJ1_resize_145 (by decide) ?_
  refine J.aload6 X dJ1_resize_353 ?_
  refine J.areturnA X dJ1_resize_355 (jRa.ofR ?_)
  exact ⟨_, rfl, S⟩
