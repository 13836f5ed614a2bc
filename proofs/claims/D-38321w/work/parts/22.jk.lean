/-! iterators, boxes, Optional (printed by gen_jdk.py) -/
set_option maxRecDepth 20000 in
set_option maxHeartbeats 400000 in
theorem ct_J24_init {G : jd_G} {h : jd_H} {i j : jd_Id} {a q : Nat} {mc : Int32} {n : Nat} {f : Nat → Nat} (ho : h i = some (a, .inr (mc, n, f))) (hn : n ≤ 900) (hj : h j = some (q, .inl (.inr (16, [.int (0), .int (0), .int (0), .null])))) (hji : j ≠ i) : jd_Ct G mJ24_init 1 (0) (0) [.ref (q), .ref (a)] h (jd_vd (jd_up h j (q, .inl (.inr (16, [.int (nI 0), .int (-1), .int mc, .ref a]))))) jd_no := by
  refine jd_ct (ls := [some (.ref (q)), some (.ref (a))]) rfl rfl (by decide) (Nat.le_of_ble_eq_true rfl) rfl ?_
  refine jd_aload_n dJ24_init_0 rfl ?_
  refine jd_aload_n dJ24_init_1 rfl ?_
  refine jd_putF (fs' := [_, _, _, _]) in_J24 tyJ24_ok nmJ24 hj 3 q1827 dJ24_init_2 rfl (Nat.le_of_ble_eq_true rfl) rfl rfl rfl rfl rfl (Nat.le_of_ble_eq_true rfl) rfl ?_
  refine jd_updG (fun h1 hs1 ho1 => ?_)
  have hf1_0 := (ho1 _ (Ne.symm hji)).trans ho
  refine jd_aload_n dJ24_init_5 rfl ?_
  refine jd_oinit q1823 q130 q131 dJ24_init_6 (Nat.le_of_ble_eq_true rfl) ?_ (Nat.le_of_ble_eq_true rfl)
  refine jd_aload_n dJ24_init_9 rfl ?_
  refine jd_iconst (v := (-1)) dJ24_init_10 (by decide) ?_
  refine jd_put (fs' := [_, _, _, _]) in_J24 tyJ24_ok nmJ24 hs1 1 q1825 dJ24_init_11 rfl (Nat.le_of_ble_eq_true rfl) rfl rfl rfl (Nat.le_of_ble_eq_true rfl) rfl ?_
  refine jd_updG (fun h2 hs2 ho2 => ?_)
  have hf2_0 := (ho2 _ (Ne.symm hji)).trans hf1_0
  refine jd_aload_n dJ24_init_14 rfl ?_
  refine jd_aload_n dJ24_init_15 rfl ?_
  refine jd_get in_J24 hs2 3 q1827 dJ24_init_16 rfl (Nat.le_of_ble_eq_true rfl) rfl ?_
  refine jd_getL hf2_0 0 q151 (Or.inr q152) dJ24_init_19 (v := .int (mc)) (Or.inl ⟨rfl, rfl⟩) ?_
  refine jd_put (fs' := [_, _, _, _]) in_J24 tyJ24_ok nmJ24 hs2 2 q1826 dJ24_init_22 rfl (Nat.le_of_ble_eq_true rfl) rfl rfl rfl (Nat.le_of_ble_eq_true rfl) rfl ?_
  refine jd_updG (fun h3 hs3 ho3 => ?_)
  have hf3_0 := (ho3 _ (Ne.symm hji)).trans hf2_0
  refine jd_heq (h' := jd_up h j (q, .inl (.inr (16, [.int (nI 0), .int (-1), .int mc, .ref a])))) ?_ ?_
  · funext z
    by_cases e : z = j
    · subst e; rw [jd_up_s]; exact hs3.symm
    · rw [jd_up_n e]; exact ((ho3 z e).trans ((ho2 z e).trans (ho1 z e))).symm
  exact jd_vret dJ24_init_25 rfl ⟨rfl, rfl⟩

set_option maxRecDepth 20000 in
set_option maxHeartbeats 400000 in
theorem ct_J2_iterator {G : jd_G} {h : jd_H} {i : jd_Id} {a : Nat} {mc : Int32} {n : Nat} {f : Nat → Nat} (ho : h i = some (a, .inr (mc, n, f))) (hn : n ≤ 900)  : jd_Ct G mJ2_iterator 2 (1) (4) [.ref (a)] h (fun v h' => ∃ q, h (0, q) = none ∧ v = some (.ref q) ∧ h' = jd_up h (0, q) (q, .inl (.inr (16, [.int (nI 0), .int ((-1)), .int (mc), .ref (a)])))) jd_no := by
  refine jd_ct (ls := [some (.ref (a))]) rfl rfl (by decide) (Nat.le_of_ble_eq_true rfl) rfl ?_
  refine jd_new (fs := [.int (0), .int (0), .int (0), .null]) in_J24 tyJ24_ok q1818 q1819 q122 dJ2_iterator_0 16 rfl rfl (by omega) (by omega) (fun qq1 hqq1 => ?_)
  refine jd_dup dJ2_iterator_3 rfl ?_
  refine jd_aload_n dJ2_iterator_4 rfl ?_
  refine jd_callI (As := [.ref (a)]) (rest := [.ref (qq1)]) (ct_J24_init (j := (0, qq1)) ((jd_up_n (jd_nes ho hqq1)).trans ho) hn jd_up_s (Ne.symm (jd_nes ho hqq1))) rfl rfl q1820 q1821 q122 q1822 nJ24_init dJ2_iterator_5 rfl rfl (Nat.le_of_ble_eq_true rfl) ⟨(Nat.le_of_ble_eq_true rfl), (Nat.le_of_ble_eq_true rfl), by omega, by omega⟩ (fun rv1 hn1 hq1 => ?_) jd_nox
  obtain ⟨e1, f1⟩ := hq1
  subst e1
  rw [f1, jd_up_up]
  exact jd_aret dJ2_iterator_8 (Or.inl ⟨_, rfl⟩) ⟨qq1, hqq1, rfl, rfl⟩

set_option maxRecDepth 20000 in
set_option maxHeartbeats 400000 in
theorem ct_J24_hasNext {G : jd_G} {h : jd_H} {i j : jd_Id} {a q : Nat} {mc : Int32} {n : Nat} {f : Nat → Nat} (ho : h i = some (a, .inr (mc, n, f))) (hn : n ≤ 900) {c : Nat} {lr : Int32} (hj : h j = some (q, .inl (.inr (16, [.int (nI c), .int lr, .int mc, .ref a])))) (hc : c ≤ n) : jd_Ct G mJ24_hasNext 0 (0) (0) [.ref (q)] h (jd_pu h (.int (jd_b (¬ (c = n))))) jd_no := by
  refine jd_ct (ls := [some (.ref (q))]) rfl rfl (by decide) (Nat.le_of_ble_eq_true rfl) rfl ?_
  refine jd_aload_n dJ24_hasNext_0 rfl ?_
  refine jd_get in_J24 hj 0 q1824 dJ24_hasNext_1 rfl (Nat.le_of_ble_eq_true rfl) rfl ?_
  refine jd_aload_n dJ24_hasNext_4 rfl ?_
  refine jd_get in_J24 hj 3 q1827 dJ24_hasNext_5 rfl (Nat.le_of_ble_eq_true rfl) rfl ?_
  refine jd_getLN ho 2 q148  dJ24_hasNext_8 (v := .int (nI n)) (Or.inr ⟨rfl, rfl⟩) ?_
  refine jd_mg2 19 (.int (jd_b ((¬ (c = n))))) (fun hj1 => ?_) ?_
  · refine jd_ncmp_eq (a := c) (b := n) (tgt := 18) dJ24_hasNext_11 (by decide) (by omega) (by omega) (fun z2 => ?_) (fun z3 => ?_)
    · refine jd_iconst (v := 0) dJ24_hasNext_18 (by decide) ?_
      exact jd_top (congrArg Value.int (jd_b0 (fun w => w z2)).symm) hj1
    · refine jd_iconst (v := 1) dJ24_hasNext_14 (by decide) ?_
      refine jd_goto (tgt := 19) dJ24_hasNext_15 (by decide) ?_
      exact jd_top (congrArg Value.int (jd_b1 z3).symm) hj1
  · exact jd_zret dJ24_hasNext_19 rfl (jd_b01 _) ⟨rfl, rfl⟩

set_option maxRecDepth 20000 in
set_option maxHeartbeats 400000 in
theorem ct_J24_check {G : jd_G} {h : jd_H} {i j : jd_Id} {a q : Nat} {mc : Int32} {n : Nat} {f : Nat → Nat} (ho : h i = some (a, .inr (mc, n, f))) (hn : n ≤ 900) {c : Nat} {lr : Int32} (hj : h j = some (q, .inl (.inr (16, [.int (nI c), .int lr, .int mc, .ref a]))))  : jd_Ct G mJ24_checkForComodification 0 (0) (0) [.ref (q)] h (jd_vd h) jd_no := by
  refine jd_ct (ls := [some (.ref (q))]) rfl rfl (by decide) (Nat.le_of_ble_eq_true rfl) rfl ?_
  refine jd_aload_n dJ24_checkForComodification_0 rfl ?_
  refine jd_get in_J24 hj 3 q1827 dJ24_checkForComodification_1 rfl (Nat.le_of_ble_eq_true rfl) rfl ?_
  refine jd_getL ho 0 q151 (Or.inr q152) dJ24_checkForComodification_4 (v := .int (mc)) (Or.inl ⟨rfl, rfl⟩) ?_
  refine jd_aload_n dJ24_checkForComodification_7 rfl ?_
  refine jd_get in_J24 hj 2 q1826 dJ24_checkForComodification_8 rfl (Nat.le_of_ble_eq_true rfl) rfl ?_
  refine jd_icmp_eq (tgt := 22) dJ24_checkForComodification_11 (by decide) (fun z1 => ?_) (fun z2 => ?_)
  · exact jd_vret dJ24_checkForComodification_22 rfl ⟨rfl, rfl⟩
  · exact absurd rfl z2

set_option maxHeartbeats 4000000 in
theorem ct_J24_next {G : jd_G} {h : jd_H} {i j : jd_Id} {a q : Nat} {mc : Int32} {n : Nat} {f : Nat → Nat} (ho : h i = some (a, .inr (mc, n, f))) (hn : n ≤ 900) {c : Nat} {lr : Int32} (hj : h j = some (q, .inl (.inr (16, [.int (nI c), .int lr, .int mc, .ref a])))) (hc : c < n) : jd_Ct G mJ24_next 2 0 0 [.ref q] h (fun v h' => v = some (.ref (f c)) ∧ h' = jd_up h j (q, .inl (.inr (16, [.int (nI (c + 1)), .int (nI c), .int mc, .ref a])))) jd_no := by
  refine jd_ct (ls := [some (.ref (q)), none, none]) rfl rfl (by decide) (Nat.le_of_ble_eq_true rfl) rfl ?_
  have hij : i ≠ j := fun z => by rw [z, hj] at ho; cases ho
  refine jd_aload_n dJ24_next_0 rfl ?_
  refine jd_callV (As := []) (rest := []) (ct_J24_check ho hn hj) (jd_rv hj 16 rfl rfl) rfl q1856 q1857 q1858 q122 q1859 nJ24_checkForComodification dJ24_next_1 rfl rfl rfl (Nat.le_of_ble_eq_true rfl) ⟨(Nat.le_of_ble_eq_true rfl), (Nat.le_of_ble_eq_true rfl), by omega, by omega⟩ (fun rv0 hn0 hq0 => ?_) jd_nox
  obtain ⟨e0, f0⟩ := hq0
  subst e0
  rw [f0]
  refine jd_aload_n dJ24_next_4 rfl ?_
  refine jd_get in_J24 hj 0 q1824 dJ24_next_5 rfl (Nat.le_of_ble_eq_true rfl) rfl ?_
  refine jd_istore_n (ls' := [_, _, _]) dJ24_next_8 (Nat.le_of_ble_eq_true rfl) rfl rfl ?_
  refine jd_iload_n dJ24_next_9 rfl ?_
  refine jd_aload_n dJ24_next_10 rfl ?_
  refine jd_get in_J24 hj 3 q1827 dJ24_next_11 rfl (Nat.le_of_ble_eq_true rfl) rfl ?_
  refine jd_getLN ho 2 q148  dJ24_next_14 (v := .int (nI n)) (Or.inr ⟨rfl, rfl⟩) ?_
  refine jd_ncmp_lt (a := c) (b := n) (tgt := 28) dJ24_next_17 (by decide) (by omega) (by omega) (fun z2 => ?_) (fun z3 => ?_)
  · refine jd_opn ho (fun e0 => absurd hc (by simp only at e0; omega)) (fun b cap g hb1 hb2 hb0 hg hfr => ?_)
    simp only at hb1 hg
    have hib := jd_nes ho hfr
    have hjb := jd_nes hj hfr
    have hoi : (jd_up (jd_up h i (a, jd_lo mc b n)) (0, b) (b, jd_la G cap g)) i = some (a, jd_lo mc b n) := (jd_up_n hib).trans jd_up_s
    have hob := jd_up_s (h := jd_up h i (a, jd_lo mc b n)) (i := (0, b)) (x := (b, jd_la G cap g))
    have hoj : (jd_up (jd_up h i (a, jd_lo mc b n)) (0, b) (b, jd_la G cap g)) j = some (q, .inl (.inr (16, [.int (nI c), .int lr, .int mc, .ref a]))) := ((jd_up_n hjb).trans (jd_up_n (Ne.symm hij))).trans hj
    have hold : ∀ z y, z ≠ j → h z = some y → z ≠ i → (jd_up (jd_up h i (a, jd_lo mc b n)) (0, b) (b, jd_la G cap g)) z = some y := fun z y hz e hzi => by rw [jd_up_n (fun z => by rw [z, hfr] at e; cases e), jd_up_n hzi]; exact e
    refine jd_aload_n dJ24_next_28 rfl ?_
    refine jd_get in_J24 hoj 3 q1827 dJ24_next_29 rfl (Nat.le_of_ble_eq_true rfl) rfl ?_
    refine jd_get in_J2 hoi 1 q147 dJ24_next_32 rfl (Nat.le_of_ble_eq_true rfl) rfl ?_
    refine jd_astore_n (ls' := [_, _, _]) dJ24_next_35 (Nat.le_of_ble_eq_true rfl) rfl rfl ?_
    refine jd_iload_n dJ24_next_36 rfl ?_
    refine jd_aload_n dJ24_next_37 rfl ?_
    refine jd_alen hob dJ24_next_38 3 rfl ?_
    refine jd_ncmp_lt (a := c) (b := cap) (tgt := 50) dJ24_next_39 (by decide) (by omega) (by omega) (fun z4 => ?_) (fun z5 => ?_)
    · refine jd_aload_n dJ24_next_50 rfl ?_
      refine jd_iload_n dJ24_next_51 rfl ?_
      refine jd_iconst (v := 1) dJ24_next_52 (by decide) ?_
      refine jd_iaddN (a := c) (b := 1) dJ24_next_53 ?_
      refine jd_put (fs' := [_, _, _, _]) in_J24 tyJ24_ok nmJ24 hoj 0 q1824 dJ24_next_54 rfl (Nat.le_of_ble_eq_true rfl) rfl rfl rfl (Nat.le_of_ble_eq_true rfl) rfl ?_
      refine jd_updG (fun h6 hs6 ho6 => ?_)
      have hf6_0 := (ho6 _ hij).trans hoi
      have hf6_2 := (ho6 _ (Ne.symm hjb)).trans hob
      refine jd_aload_n dJ24_next_57 rfl ?_
      refine jd_aload_n dJ24_next_58 rfl ?_
      refine jd_iload_n dJ24_next_59 rfl ?_
      refine jd_dup_x1 dJ24_next_60 rfl rfl ?_
      refine jd_put (fs' := [_, _, _, _]) in_J24 tyJ24_ok nmJ24 hs6 1 q1825 dJ24_next_61 rfl (Nat.le_of_ble_eq_true rfl) rfl rfl rfl (Nat.le_of_ble_eq_true rfl) rfl ?_
      refine jd_updG (fun h7 hs7 ho7 => ?_)
      have hf7_0 := (ho7 _ hij).trans hf6_0
      have hf7_2 := (ho7 _ (Ne.symm hjb)).trans hf6_2
      refine jd_aald (y := f c) hf7_2 dJ24_next_64 3 rfl (vp_in_nI (by omega) (by omega)) (by rw [nI_clamp (by omega)]; exact hg c hc) ?_
      refine jd_cls (f := f) hf7_0 hf7_2 hb1 hb2 hb0 hg ?_
      refine jd_drop (h' := jd_up h j (q, .inl (.inr (16, [.int (nI (c + 1)), .int (nI c), .int mc, .ref a])))) (fun z y hz => ?_) ?_
      · by_cases e2 : z = i
        · subst e2; rw [jd_up_n hij] at hz; rw [jd_up_s]; rw [ho] at hz; exact hz
        · rw [jd_up_n e2]
          by_cases e3 : z = (0, b)
          · subst e3; rw [jd_up_n (Ne.symm hjb), hfr] at hz; cases hz
          · rw [jd_rm_n e3]
            by_cases e1 : z = j
            · subst e1; rw [jd_up_s] at hz; rw [hs7]; exact hz
            · rw [jd_up_n e1] at hz; exact ((ho7 z e1).trans (ho6 z e1)).trans (hold z y e1 hz e2)
      exact jd_aret dJ24_next_65 (Or.inl ⟨_, rfl⟩) ⟨rfl, rfl⟩
    · omega
  · omega

theorem jd_n128 {v : Nat} (hv : v < 128) : ¬ nI v < (-128) := fun z => by
  have h1 := Int32.lt_iff_toInt_lt.mp z
  have h2 : ((-128 : Int32)).toInt = -128 := by decide
  rw [nI_toInt (by omega), h2] at h1
  omega

set_option maxRecDepth 20000 in
set_option maxHeartbeats 400000 in
theorem ct_J19_valueOf {G : jd_G} {h : jd_H} {v : Nat} (hv : v < 128) : jd_Ct G mJ19_valueOf 0 (0) (0) [.int (nI v)] h (jd_pu h (.ref (jd_bx G v))) jd_no := by
  refine jd_ct (ls := [some (.int (nI v))]) rfl rfl (by decide) (Nat.le_of_ble_eq_true rfl) rfl ?_
  refine jd_iload_n dJ19_valueOf_0 rfl ?_
  refine jd_bipush (v := (-128)) dJ19_valueOf_1 (by decide) ?_
  refine jd_icmp_lt (tgt := 23) dJ19_valueOf_3 (by decide) (fun z1 => ?_) (fun z2 => ?_)
  · exact absurd z1 (jd_n128 hv)
  · refine jd_iload_n dJ19_valueOf_6 rfl ?_
    refine jd_gets (fun _ _ hC => hC.2.2.2.2.1.1) q1704 dJ19_valueOf_7 ?_
    refine jd_ncmp_gt (a := v) (b := 127) (tgt := 23) dJ19_valueOf_10 (by decide) (by omega) (by omega) (fun z3 => ?_) (fun z4 => ?_)
    · omega
    · refine jd_gets (fun _ _ hC => hC.2.2.2.2.1.2.1) q1706 dJ19_valueOf_13 ?_
      refine jd_iload_n dJ19_valueOf_16 rfl ?_
      refine jd_sipush (v := 128) dJ19_valueOf_17 (by decide) ?_
      refine jd_iaddN (a := v) (b := 128) dJ19_valueOf_20 ?_
      refine jd_aaldC (k := v + 128) (y := jd_bx G v) (fun _ _ hC => hC.2.2.2.2.1.2.2.1) dJ19_valueOf_21 (by omega) (by omega) rfl ?_
      exact jd_aret dJ19_valueOf_22 (Or.inl ⟨_, rfl⟩) ⟨rfl, rfl⟩

set_option maxRecDepth 20000 in
set_option maxHeartbeats 400000 in
theorem ct_J19_intValue {G : jd_G} {h : jd_H} {v : Nat} (hv : v < 128) : jd_Ct G mJ19_intValue 0 (0) (0) [.ref (jd_bx G v)] h (jd_pu h (.int (nI v))) jd_no := by
  refine jd_ct (ls := [some (.ref (jd_bx G v))]) rfl rfl (by decide) (Nat.le_of_ble_eq_true rfl) rfl ?_
  refine jd_aload_n dJ19_intValue_0 rfl ?_
  refine jd_getC (jd_bx_f (v := v) (by omega)) q1717 dJ19_intValue_1 ?_
  exact jd_iret dJ19_intValue_4 rfl ⟨rfl, rfl⟩

theorem jd_ordR {G : jd_G} {k : Nat} (hk : k < 3) : ∀ (U : State) (H : Heap), jd_Cs G U H → va_OF "java/lang/Enum" "ordinal" "I" (.int (nI k)) (jd_rA G k) (jd_A G) U H := fun U H hC => by
  rcases (show k = 0 ∨ k = 1 ∨ k = 2 by omega) with rfl | rfl | rfl
  · have h0 : va_OF "java/lang/Enum" "ordinal" "I" (.int (([0, 1, 2] : List Int32).getD 0 0)) (jd_rA G 0) (jd_A G) U H := (hC.1.1 0 (by decide)).2.2 _ List.mem_cons_self
    have e : (Value.int (([0, 1, 2] : List Int32).getD 0 0)) = .int (nI 0) := congrArg Value.int (by decide)
    rw [e] at h0
    exact h0
  · have h0 : va_OF "java/lang/Enum" "ordinal" "I" (.int (([0, 1, 2] : List Int32).getD 1 0)) (jd_rA G 1) (jd_A G) U H := (hC.1.1 1 (by decide)).2.2 _ List.mem_cons_self
    have e : (Value.int (([0, 1, 2] : List Int32).getD 1 0)) = .int (nI 1) := congrArg Value.int (by decide)
    rw [e] at h0
    exact h0
  · have h0 : va_OF "java/lang/Enum" "ordinal" "I" (.int (([0, 1, 2] : List Int32).getD 2 0)) (jd_rA G 2) (jd_A G) U H := (hC.1.1 2 (by decide)).2.2 _ List.mem_cons_self
    have e : (Value.int (([0, 1, 2] : List Int32).getD 2 0)) = .int (nI 2) := congrArg Value.int (by decide)
    rw [e] at h0
    exact h0

set_option maxRecDepth 20000 in
set_option maxHeartbeats 400000 in
theorem ct_J16_ordinalR {G : jd_G} {h : jd_H} {k : Nat} (hk : k < 3) : jd_Ct G mJ16_ordinal 0 (0) (0) [.ref (jd_rA G k)] h (jd_pu h (.int (nI k))) jd_no := by
  refine jd_ct (ls := [some (.ref (jd_rA G k))]) rfl rfl (by decide) (Nat.le_of_ble_eq_true rfl) rfl ?_
  refine jd_aload_n dJ16_ordinal_0 rfl ?_
  refine jd_getC (jd_ordR hk) q2043 dJ16_ordinal_1 ?_
  exact jd_iret dJ16_ordinal_4 rfl ⟨rfl, rfl⟩

theorem jd_ordF {G : jd_G} {k : Nat} (hk : k < 6) : ∀ (U : State) (H : Heap), jd_Cs G U H → va_OF "java/lang/Enum" "ordinal" "I" (.int (nI k)) (jd_fA G k) (jd_A G) U H := fun U H hC => by
  rcases (show k = 0 ∨ k = 1 ∨ k = 2 ∨ k = 3 ∨ k = 4 ∨ k = 5 by omega) with rfl | rfl | rfl | rfl | rfl | rfl
  · have h0 : va_OF "java/lang/Enum" "ordinal" "I" (.int (([0, 1, 2, 3, 4, 5] : List Int32).getD 0 0)) (jd_fA G 0) (jd_A G) U H := (hC.2.1.1 0 (by decide)).2.2 _ List.mem_cons_self
    have e : (Value.int (([0, 1, 2, 3, 4, 5] : List Int32).getD 0 0)) = .int (nI 0) := congrArg Value.int (by decide)
    rw [e] at h0
    exact h0
  · have h0 : va_OF "java/lang/Enum" "ordinal" "I" (.int (([0, 1, 2, 3, 4, 5] : List Int32).getD 1 0)) (jd_fA G 1) (jd_A G) U H := (hC.2.1.1 1 (by decide)).2.2 _ List.mem_cons_self
    have e : (Value.int (([0, 1, 2, 3, 4, 5] : List Int32).getD 1 0)) = .int (nI 1) := congrArg Value.int (by decide)
    rw [e] at h0
    exact h0
  · have h0 : va_OF "java/lang/Enum" "ordinal" "I" (.int (([0, 1, 2, 3, 4, 5] : List Int32).getD 2 0)) (jd_fA G 2) (jd_A G) U H := (hC.2.1.1 2 (by decide)).2.2 _ List.mem_cons_self
    have e : (Value.int (([0, 1, 2, 3, 4, 5] : List Int32).getD 2 0)) = .int (nI 2) := congrArg Value.int (by decide)
    rw [e] at h0
    exact h0
  · have h0 : va_OF "java/lang/Enum" "ordinal" "I" (.int (([0, 1, 2, 3, 4, 5] : List Int32).getD 3 0)) (jd_fA G 3) (jd_A G) U H := (hC.2.1.1 3 (by decide)).2.2 _ List.mem_cons_self
    have e : (Value.int (([0, 1, 2, 3, 4, 5] : List Int32).getD 3 0)) = .int (nI 3) := congrArg Value.int (by decide)
    rw [e] at h0
    exact h0
  · have h0 : va_OF "java/lang/Enum" "ordinal" "I" (.int (([0, 1, 2, 3, 4, 5] : List Int32).getD 4 0)) (jd_fA G 4) (jd_A G) U H := (hC.2.1.1 4 (by decide)).2.2 _ List.mem_cons_self
    have e : (Value.int (([0, 1, 2, 3, 4, 5] : List Int32).getD 4 0)) = .int (nI 4) := congrArg Value.int (by decide)
    rw [e] at h0
    exact h0
  · have h0 : va_OF "java/lang/Enum" "ordinal" "I" (.int (([0, 1, 2, 3, 4, 5] : List Int32).getD 5 0)) (jd_fA G 5) (jd_A G) U H := (hC.2.1.1 5 (by decide)).2.2 _ List.mem_cons_self
    have e : (Value.int (([0, 1, 2, 3, 4, 5] : List Int32).getD 5 0)) = .int (nI 5) := congrArg Value.int (by decide)
    rw [e] at h0
    exact h0

set_option maxRecDepth 20000 in
set_option maxHeartbeats 400000 in
theorem ct_J16_ordinalF {G : jd_G} {h : jd_H} {k : Nat} (hk : k < 6) : jd_Ct G mJ16_ordinal 0 (0) (0) [.ref (jd_fA G k)] h (jd_pu h (.int (nI k))) jd_no := by
  refine jd_ct (ls := [some (.ref (jd_fA G k))]) rfl rfl (by decide) (Nat.le_of_ble_eq_true rfl) rfl ?_
  refine jd_aload_n dJ16_ordinal_0 rfl ?_
  refine jd_getC (jd_ordF hk) q2043 dJ16_ordinal_1 ?_
  exact jd_iret dJ16_ordinal_4 rfl ⟨rfl, rfl⟩

set_option maxRecDepth 20000 in
set_option maxHeartbeats 400000 in
theorem ct_J17_empty {G : jd_G} {h : jd_H}  : jd_Ct G mJ17_empty 0 (0) (0) [] h (jd_pu h (.ref (jd_k G 1))) jd_no := by
  refine jd_ct (ls := [none]) rfl rfl (by decide) (Nat.le_of_ble_eq_true rfl) rfl ?_
  refine jd_gets (fun _ _ hC => hC.2.2.1.1) q846 dJ17_empty_0 ?_
  refine jd_astore_n (ls' := [_]) dJ17_empty_3 (Nat.le_of_ble_eq_true rfl) rfl rfl ?_
  refine jd_aload_n dJ17_empty_4 rfl ?_
  exact jd_aret dJ17_empty_5 (Or.inl ⟨_, rfl⟩) ⟨rfl, rfl⟩

set_option maxRecDepth 20000 in
set_option maxHeartbeats 400000 in
theorem ct_J17_isPresentE {G : jd_G} {h : jd_H}  : jd_Ct G mJ17_isPresent 0 (0) (0) [.ref (jd_k G 1)] h (jd_pu h (.int 0)) jd_no := by
  refine jd_ct (ls := [some (.ref (jd_k G 1))]) rfl rfl (by decide) (Nat.le_of_ble_eq_true rfl) rfl ?_
  refine jd_aload_n dJ17_isPresent_0 rfl ?_
  refine jd_getC (fun _ _ hC => hC.2.2.1.2.2) q978 dJ17_isPresent_1 ?_
  refine jd_ifnullN (tgt := 11) dJ17_isPresent_4 (by decide) ?_
  refine jd_iconst (v := 0) dJ17_isPresent_11 (by decide) ?_
  exact jd_zret dJ17_isPresent_12 rfl (Or.inl rfl) ⟨rfl, rfl⟩

set_option maxRecDepth 20000 in
set_option maxHeartbeats 400000 in
theorem ct_J17_isPresent {G : jd_G} {h : jd_H} {i : jd_Id} {a : Nat} {vv : Nat} (ho : h i = some (a, .inl (.inr (17, [.ref (vv)])))) : jd_Ct G mJ17_isPresent 0 (0) (0) [.ref (a)] h (jd_pu h (.int 1)) jd_no := by
  refine jd_ct (ls := [some (.ref (a))]) rfl rfl (by decide) (Nat.le_of_ble_eq_true rfl) rfl ?_
  refine jd_aload_n dJ17_isPresent_0 rfl ?_
  refine jd_get in_J17 ho 0 q978 dJ17_isPresent_1 rfl (Nat.le_of_ble_eq_true rfl) rfl ?_
  refine jd_ifnull dJ17_isPresent_4 ?_
  refine jd_iconst (v := 1) dJ17_isPresent_7 (by decide) ?_
  refine jd_goto (tgt := 12) dJ17_isPresent_8 (by decide) ?_
  exact jd_zret dJ17_isPresent_12 rfl (Or.inr rfl) ⟨rfl, rfl⟩

set_option maxRecDepth 20000 in
set_option maxHeartbeats 400000 in
theorem ct_J17_get {G : jd_G} {h : jd_H} {i : jd_Id} {a : Nat} {vv : Nat} (ho : h i = some (a, .inl (.inr (17, [.ref (vv)])))) : jd_Ct G mJ17_get 0 (0) (0) [.ref (a)] h (jd_pu h (.ref vv)) jd_no := by
  refine jd_ct (ls := [some (.ref (a))]) rfl rfl (by decide) (Nat.le_of_ble_eq_true rfl) rfl ?_
  refine jd_aload_n dJ17_get_0 rfl ?_
  refine jd_get in_J17 ho 0 q978 dJ17_get_1 rfl (Nat.le_of_ble_eq_true rfl) rfl ?_
  refine jd_ifnonnull (tgt := 17) dJ17_get_4 (by decide) ?_
  refine jd_aload_n dJ17_get_17 rfl ?_
  refine jd_get in_J17 ho 0 q978 dJ17_get_18 rfl (Nat.le_of_ble_eq_true rfl) rfl ?_
  exact jd_aret dJ17_get_21 (Or.inl ⟨_, rfl⟩) ⟨rfl, rfl⟩

set_option maxRecDepth 20000 in
set_option maxHeartbeats 400000 in
theorem ct_J12_requireNonNull {G : jd_G} {h : jd_H} {a : Nat} : jd_Ct G mJ12_requireNonNull 0 (0) (0) [.ref (a)] h (jd_pu h (.ref a)) jd_no := by
  refine jd_ct (ls := [some (.ref (a))]) rfl rfl (by decide) (Nat.le_of_ble_eq_true rfl) rfl ?_
  refine jd_aload_n dJ12_requireNonNull_0 rfl ?_
  refine jd_ifnonnull (tgt := 12) dJ12_requireNonNull_1 (by decide) ?_
  refine jd_aload_n dJ12_requireNonNull_12 rfl ?_
  exact jd_aret dJ12_requireNonNull_13 (Or.inl ⟨_, rfl⟩) ⟨rfl, rfl⟩

set_option maxRecDepth 20000 in
set_option maxHeartbeats 400000 in
theorem ct_J17_init {G : jd_G} {h : jd_H} {i : jd_Id} {a x : Nat} (ho : h i = some (a, .inl (.inr (17, [.null])))) : jd_Ct G mJ17_init 1 (0) (0) [.ref (a), .ref (x)] h (jd_vd (jd_up h i (a, .inl (.inr (17, [.ref x]))))) jd_no := by
  refine jd_ct (ls := [some (.ref (a)), some (.ref (x))]) rfl rfl (by decide) (Nat.le_of_ble_eq_true rfl) rfl ?_
  refine jd_aload_n dJ17_init_0 rfl ?_
  refine jd_oinit q977 q130 q131 dJ17_init_1 (Nat.le_of_ble_eq_true rfl) ?_ (Nat.le_of_ble_eq_true rfl)
  refine jd_aload_n dJ17_init_4 rfl ?_
  refine jd_aload_n dJ17_init_5 rfl ?_
  refine jd_putF (fs' := [_]) in_J17 tyJ17_ok nmJ17 ho 0 q978 dJ17_init_6 rfl (Nat.le_of_ble_eq_true rfl) rfl rfl rfl rfl rfl (Nat.le_of_ble_eq_true rfl) rfl ?_
  refine jd_updG (fun h1 hs1 ho1 => ?_)
  refine jd_heq (h' := jd_up h i (a, .inl (.inr (17, [.ref x])))) ?_ ?_
  · funext z
    by_cases e : z = i
    · subst e; rw [jd_up_s]; exact hs1.symm
    · rw [jd_up_n e]; exact (ho1 z e).symm
  exact jd_vret dJ17_init_9 rfl ⟨rfl, rfl⟩

set_option maxRecDepth 20000 in
set_option maxHeartbeats 400000 in
theorem ct_J17_of {G : jd_G} {h : jd_H} {x : Nat} : jd_Ct G mJ17_of 2 (1) (1) [.ref (x)] h (fun v h' => ∃ q, h (0, q) = none ∧ v = some (.ref q) ∧ h' = jd_up h (0, q) (q, .inl (.inr (17, [.ref (x)])))) jd_no := by
  refine jd_ct (ls := [some (.ref (x))]) rfl rfl (by decide) (Nat.le_of_ble_eq_true rfl) rfl ?_
  refine jd_new (fs := [.null]) in_J17 tyJ17_ok q969 q970 q108 dJ17_of_0 17 rfl rfl (by omega) (by omega) (fun qq1 hqq1 => ?_)
  refine jd_dup dJ17_of_3 rfl ?_
  refine jd_aload_n dJ17_of_4 rfl ?_
  refine jd_pS (As := [.ref (x)]) (rest := [.ref (qq1), .ref (qq1)]) ct_J12_requireNonNull rfl q971 q972 q99 q973 nJ12_requireNonNull dJ17_of_5 rfl rfl (Nat.le_of_ble_eq_true rfl) ⟨(Nat.le_of_ble_eq_true rfl), (Nat.le_of_ble_eq_true rfl)⟩ ?_
  refine jd_callI (As := [.ref (x)]) (rest := [.ref (qq1)]) (ct_J17_init (i := (0, qq1)) jd_up_s) rfl rfl q974 q975 q108 q976 nJ17_init dJ17_of_8 rfl rfl (Nat.le_of_ble_eq_true rfl) ⟨(Nat.le_of_ble_eq_true rfl), (Nat.le_of_ble_eq_true rfl), by omega, by omega⟩ (fun rv1 hn1 hq1 => ?_) jd_nox
  obtain ⟨e1, f1⟩ := hq1
  subst e1
  rw [f1, jd_up_up]
  exact jd_aret dJ17_of_11 (Or.inl ⟨_, rfl⟩) ⟨qq1, hqq1, rfl, rfl⟩
