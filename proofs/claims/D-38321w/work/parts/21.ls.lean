/-! lists (printed by gen_list.py) -/
set_option maxRecDepth 20000 in
set_option maxHeartbeats 2000000 in
theorem ct_J13_checkIndex {G : jd_G} {h : jd_H} {x y : Nat} (hx : x < y) (hy : y < 2 ^ 31) : jd_Ct G mJ13_checkIndex 0 (0) (0) [.int (nI x), .int (nI y), .null] h (jd_pu h (.int (nI x))) jd_no := by
  refine jd_ct (ls := [some (.int (nI x)), some (.int (nI y)), some (.null)]) rfl rfl (by decide) (Nat.le_of_ble_eq_true rfl) rfl ?_
  refine jd_iload_n dJ13_checkIndex_0 rfl ?_
  refine jd_nif_lt (a := x) (tgt := 9) dJ13_checkIndex_1 (by decide) (by omega) ?_
  refine jd_iload_n dJ13_checkIndex_4 rfl ?_
  refine jd_iload_n dJ13_checkIndex_5 rfl ?_
  refine jd_ncmp_lt (a := x) (b := y) (tgt := 16) dJ13_checkIndex_6 (by decide) (by omega) (by omega) (fun z1 => ?_) (fun z2 => ?_)
  · refine jd_iload_n dJ13_checkIndex_16 rfl ?_
    exact jd_iret dJ13_checkIndex_17 rfl ⟨rfl, rfl⟩
  · exact absurd hx (by omega)

set_option maxRecDepth 20000 in
set_option maxHeartbeats 2000000 in
theorem ct_J12_checkIndex {G : jd_G} {h : jd_H} {x y : Nat} (hx : x < y) (hy : y < 2 ^ 31) : jd_Ct G mJ12_checkIndex 1 (0) (0) [.int (nI x), .int (nI y)] h (jd_pu h (.int (nI x))) jd_no := by
  refine jd_ct (ls := [some (.int (nI x)), some (.int (nI y))]) rfl rfl (by decide) (Nat.le_of_ble_eq_true rfl) rfl ?_
  refine jd_iload_n dJ12_checkIndex_0 rfl ?_
  refine jd_iload_n dJ12_checkIndex_1 rfl ?_
  refine jd_null dJ12_checkIndex_2 ?_
  refine jd_pS (As := [.int (nI x), .int (nI y), .null]) (rest := []) (ct_J13_checkIndex (by omega) (by omega)) rfl q331 q332 q100 q333 nJ13_checkIndex dJ12_checkIndex_3 rfl rfl (Nat.le_of_ble_eq_true rfl) ⟨(Nat.le_of_ble_eq_true rfl), (Nat.le_of_ble_eq_true rfl)⟩ ?_
  exact jd_iret dJ12_checkIndex_6 rfl ⟨rfl, rfl⟩

set_option maxRecDepth 20000 in
set_option maxHeartbeats 2000000 in
theorem ct_J2_size {G : jd_G} {h : jd_H} {i : jd_Id} {a : Nat} {mc : Int32} {n : Nat} {f : Nat → Nat} (ho : h i = some (a, .inr (mc, n, f))) (hn : n ≤ 900)  : jd_Ct G mJ2_size 0 (0) (0) [.ref (a)] h (jd_pu h (.int (nI n))) jd_no := by
  refine jd_ct (ls := [some (.ref (a))]) rfl rfl (by decide) (Nat.le_of_ble_eq_true rfl) rfl ?_
  refine jd_aload_n dJ2_size_0 rfl ?_
  refine jd_getL ho 2 q149 (Or.inl rfl) dJ2_size_1 (v := .int (nI n)) (Or.inr ⟨rfl, rfl⟩) ?_
  exact jd_iret dJ2_size_4 rfl ⟨rfl, rfl⟩

set_option maxRecDepth 20000 in
set_option maxHeartbeats 2000000 in
theorem ct_J2_isEmpty {G : jd_G} {h : jd_H} {i : jd_Id} {a : Nat} {mc : Int32} {n : Nat} {f : Nat → Nat} (ho : h i = some (a, .inr (mc, n, f))) (hn : n ≤ 900)  : jd_Ct G mJ2_isEmpty 0 (0) (0) [.ref (a)] h (jd_pu h (.int (jd_b (n = 0)))) jd_no := by
  refine jd_ct (ls := [some (.ref (a))]) rfl rfl (by decide) (Nat.le_of_ble_eq_true rfl) rfl ?_
  refine jd_aload_n dJ2_isEmpty_0 rfl ?_
  refine jd_getL ho 2 q149 (Or.inl rfl) dJ2_isEmpty_1 (v := .int (nI n)) (Or.inr ⟨rfl, rfl⟩) ?_
  refine jd_mg1 12 (.int (jd_b ((n = 0)))) (fun hj1 => ?_) ?_
  · refine jd_nif_ne (a := n) (tgt := 11) dJ2_isEmpty_4 (by decide) (by omega) (fun z2 => ?_) (fun z3 => ?_)
    · refine jd_iconst (v := 0) dJ2_isEmpty_11 (by decide) ?_
      exact jd_top (congrArg Value.int (jd_b0 z2).symm) hj1
    · refine jd_iconst (v := 1) dJ2_isEmpty_7 (by decide) ?_
      refine jd_goto (tgt := 12) dJ2_isEmpty_8 (by decide) ?_
      exact jd_top (congrArg Value.int (jd_b1 z3).symm) hj1
  · exact jd_zret dJ2_isEmpty_12 rfl (jd_b01 _) ⟨rfl, rfl⟩

set_option maxRecDepth 20000 in
theorem ct_J2_elementData {G : jd_G} {h : jd_H} {i : jd_Id} {a : Nat} {mc : Int32} {n : Nat} {f : Nat → Nat} (ho : h i = some (a, .inr (mc, n, f))) (hn : n ≤ 900) {k : Nat} (hk : k < n) : jd_Ct G mJ2_elementData 0 0 0 [.ref a, .int (nI k)] h (jd_pu h (.ref (f k))) jd_no := by
  refine jd_ct (ls := [some (.ref a), some (.int (nI k))]) rfl rfl (by decide) (Nat.le_of_ble_eq_true rfl) rfl ?_
  refine jd_opn ho (fun e0 => absurd hk (by simp only at e0; omega)) (fun b cap g hb1 hb2 hb0 hg hfr => ?_)
  simp only at hb1 hg
  have hib := jd_nes ho hfr
  have hoi : (jd_up (jd_up h i (a, jd_lo mc b n)) (0, b) (b, jd_la G cap g)) i = some (a, jd_lo mc b n) := (jd_up_n hib).trans jd_up_s
  refine jd_aload_n dJ2_elementData_0 rfl ?_
  refine jd_get in_J2 hoi 1 q146 dJ2_elementData_1 rfl (Nat.le_of_ble_eq_true rfl) rfl ?_
  refine jd_iload_n dJ2_elementData_4 rfl ?_
  refine jd_aald (y := f k) jd_up_s dJ2_elementData_5 3 rfl (vp_in_nI (by omega) (by omega)) (by rw [nI_clamp (by omega)]; exact hg k hk) ?_
  refine jd_cls hoi jd_up_s hb1 hb2 hb0 hg ?_
  refine jd_heq (h' := h) ?_ ?_
  · rw [jd_bk hib hfr, jd_up_id ho]
  · exact jd_aret dJ2_elementData_6 (Or.inl ⟨_, rfl⟩) ⟨rfl, rfl⟩

set_option maxRecDepth 20000 in
set_option maxHeartbeats 2000000 in
theorem ct_J2_get {G : jd_G} {h : jd_H} {i : jd_Id} {a : Nat} {mc : Int32} {n : Nat} {f : Nat → Nat} (ho : h i = some (a, .inr (mc, n, f))) (hn : n ≤ 900) {k : Nat} (hk : k < n) : jd_Ct G mJ2_get 2 (0) (0) [.ref (a), .int (nI k)] h (jd_pu h (.ref (f k))) jd_no := by
  refine jd_ct (ls := [some (.ref (a)), some (.int (nI k))]) rfl rfl (by decide) (Nat.le_of_ble_eq_true rfl) rfl ?_
  refine jd_iload_n dJ2_get_0 rfl ?_
  refine jd_aload_n dJ2_get_1 rfl ?_
  refine jd_getL ho 2 q149 (Or.inl rfl) dJ2_get_2 (v := .int (nI n)) (Or.inr ⟨rfl, rfl⟩) ?_
  refine jd_pS (As := [.int (nI k), .int (nI n)]) (rest := []) (ct_J12_checkIndex (x := k) (y := n) (by omega) (by omega)) rfl q328 q329 q99 q330 nJ12_checkIndex dJ2_get_5 rfl rfl (Nat.le_of_ble_eq_true rfl) ⟨(Nat.le_of_ble_eq_true rfl), (Nat.le_of_ble_eq_true rfl)⟩ ?_
  refine jd_pop dJ2_get_8 rfl ?_
  refine jd_aload_n dJ2_get_9 rfl ?_
  refine jd_iload_n dJ2_get_10 rfl ?_
  refine jd_pV (As := [.int (nI k)]) (rest := []) (ct_J2_elementData ho hn (k := k) (by omega)) (jd_rv ho 15 rfl rfl) rfl q334 q335 q336 q83 q337 nJ2_elementData dJ2_get_11 rfl rfl rfl (Nat.le_of_ble_eq_true rfl) ⟨(Nat.le_of_ble_eq_true rfl), (Nat.le_of_ble_eq_true rfl)⟩ ?_
  exact jd_aret dJ2_get_14 (Or.inl ⟨_, rfl⟩) ⟨rfl, rfl⟩

set_option maxRecDepth 20000 in
set_option maxHeartbeats 2000000 in
theorem ct_J3_newLength {G : jd_G} {h : jd_H} {c m k : Nat} (hb : 0 < c ∧ c ≤ 2000 ∧ m ≤ 2000 ∧ k ≤ 2000) : jd_Ct G mJ3_newLength 1 (0) (0) [.int (nI c), .int (nI m), .int (nI k)] h (jd_pu h (.int (nI (c + max m k)))) jd_no := by
  obtain ⟨hb1, hb2, hb3, hb4⟩ := hb
  refine jd_ct (ls := [some (.int (nI c)), some (.int (nI m)), some (.int (nI k)), none]) rfl rfl (by decide) (Nat.le_of_ble_eq_true rfl) rfl ?_
  refine jd_iload_n dJ3_newLength_0 rfl ?_
  refine jd_iload_n dJ3_newLength_1 rfl ?_
  refine jd_iload_n dJ3_newLength_2 rfl ?_
  refine jd_mmax q228 q229 q87 q230 dJ3_newLength_3 (Nat.le_of_ble_eq_true rfl) (Nat.le_of_ble_eq_true rfl) ?_
  refine jd_top (congrArg Value.int (jd_maxN (by omega) (by omega) : _ = nI (max (m) (k)))) ?_
  refine jd_iaddN (a := c) (b := (max (m) (k))) dJ3_newLength_6 ?_
  refine jd_istore_n (ls' := [_, _, _, _]) dJ3_newLength_7 (Nat.le_of_ble_eq_true rfl) rfl rfl ?_
  refine jd_iconst (v := 0) dJ3_newLength_8 (by decide) ?_
  refine jd_iload_n dJ3_newLength_9 rfl ?_
  refine jd_ncmp_ge (a := 0) (b := (c + (max (m) (k)))) (tgt := 21) dJ3_newLength_10 (by decide) (by omega) (by omega) (fun z1 => ?_) (fun z2 => ?_)
  · omega
  · refine jd_iload_n dJ3_newLength_13 rfl ?_
    refine jd_ldc q231 dJ3_newLength_14 ?_
    refine jd_ncmp_gt (a := (c + (max (m) (k)))) (b := 2147483639) (tgt := 21) dJ3_newLength_16 (by decide) (by omega) (by omega) (fun z3 => ?_) (fun z4 => ?_)
    · omega
    · refine jd_iload_n dJ3_newLength_19 rfl ?_
      exact jd_iret dJ3_newLength_20 rfl ⟨rfl, rfl⟩

/-- a new array of references -/
def jd_ca (G : jd_G) (h : jd_H) (m : Nat) (g : Nat → Option Nat) : Option Value → jd_H → Prop := fun v h' => ∃ q, h (0, q) = none ∧ v = some (.ref q) ∧ h' = jd_up h (0, q) (q, jd_la G m g)

set_option maxRecDepth 20000 in
set_option maxHeartbeats 2000000 in
theorem ct_J5_copyOf_2 {G : jd_G} {h : jd_H} {i : jd_Id} {a n m : Nat} {g : Nat → Option Nat} {Cn : String} (ho : h i = some (a, jd_la G n g)) (hb1 : n ≤ 2000) (hb2 : m ≤ 2000) (qc : Cond.castable Cn "java/lang/Object" ∈ lw_tbl) (hel : ∀ k, k < min n m → ∀ y, g k = some y → jd_Ob G h Cn y) : jd_Ct G mJ5_copyOf_2 2 (1) (m) [.ref (a), .int (nI m), .ref (jd_k G 5)] h (jd_ca G h m (va_cpy g (fun _ => none) 0 0 (min n m))) jd_no := by
  refine jd_ct (ls := [some (.ref (a)), some (.int (nI m)), some (.ref (jd_k G 5)), none]) rfl rfl (by decide) (Nat.le_of_ble_eq_true rfl) rfl ?_
  refine jd_aload_n dJ5_copyOf_2_0 rfl ?_
  refine jd_ldcM q272 dJ5_copyOf_2_1 ?_
  refine jd_acmp_ne (tgt := 13) dJ5_copyOf_2_3 (by decide) (fun z => absurd rfl z) (fun _ => ?_)
  refine jd_iload_n dJ5_copyOf_2_6 rfl ?_
  refine jd_anew q274 q273 dJ5_copyOf_2_7 3 rfl (nI_pos (by omega)) (nI_clamp (by omega)) (by omega) (by omega) (by omega) (fun q hq => ?_)
  have hiq := jd_nes ho hq
  have ho2 := (jd_up_n (x := (q, jd_la G m (fun _ => none))) hiq).trans ho
  refine jd_goto (tgt := 24) dJ5_copyOf_2_10 (by decide) ?_
  refine jd_astore_n (ls' := [_, _, _, _]) dJ5_copyOf_2_24 (Nat.le_of_ble_eq_true rfl) rfl rfl ?_
  refine jd_aload_n dJ5_copyOf_2_25 rfl ?_
  refine jd_iconst (v := 0) dJ5_copyOf_2_26 (by decide) ?_
  refine jd_aload_n dJ5_copyOf_2_27 rfl ?_
  refine jd_iconst (v := 0) dJ5_copyOf_2_28 (by decide) ?_
  refine jd_aload_n dJ5_copyOf_2_29 rfl ?_
  refine jd_alen ho2 dJ5_copyOf_2_30 3 rfl ?_
  refine jd_iload_n dJ5_copyOf_2_31 rfl ?_
  refine jd_mmin q275 q276 q87 q277 dJ5_copyOf_2_32 (Nat.le_of_ble_eq_true rfl) (Nat.le_of_ble_eq_true rfl) ?_
  refine jd_top (congrArg Value.int (jd_minN (by omega) (by omega) : _ = nI (min (n) (m)))) ?_
  refine jd_acopy (n := min n m) (sp := 0) (dp := 0) q278 q280 q279 q89 dJ5_copyOf_2_35 ho2 jd_up_s (t0 := 3) (t1 := 3) rfl rfl qc (by omega) (by omega) ⟨by omega, by omega, by omega⟩ (fun k hk y hy => ((hel k hk y (by simpa using hy)).kp (jd_kp.fresh hq)).rv) (Nat.le_of_ble_eq_true rfl) (Nat.le_of_ble_eq_true rfl) ?_
  rw [jd_up_up]
  refine jd_aload_n dJ5_copyOf_2_38 rfl ?_
  exact jd_aret dJ5_copyOf_2_39 (Or.inr ⟨_, rfl⟩) ⟨q, hq, rfl, rfl⟩

set_option maxRecDepth 20000 in
set_option maxHeartbeats 2000000 in
theorem ct_J5_copyOf {G : jd_G} {h : jd_H} {i : jd_Id} {a n m : Nat} {g : Nat → Option Nat} {Cn : String} (ho : h i = some (a, jd_la G n g)) (hb1 : n ≤ 2000) (hb2 : m ≤ 2000) (qc : Cond.castable Cn "java/lang/Object" ∈ lw_tbl) (hel : ∀ k, k < min n m → ∀ y, g k = some y → jd_Ob G h Cn y) : jd_Ct G mJ5_copyOf 3 (1) (m) [.ref (a), .int (nI m)] h (jd_ca G h m (va_cpy g (fun _ => none) 0 0 (min n m))) jd_no := by
  refine jd_ct (ls := [some (.ref (a)), some (.int (nI m))]) rfl rfl (by decide) (Nat.le_of_ble_eq_true rfl) rfl ?_
  refine jd_aload_n dJ5_copyOf_0 rfl ?_
  refine jd_iload_n dJ5_copyOf_1 rfl ?_
  refine jd_aload_n dJ5_copyOf_2 rfl ?_
  refine jd_getClass ho q238 q2036 q2035 q239 q268 dJ5_copyOf_3 (Nat.le_of_ble_eq_true rfl) (Nat.le_of_ble_eq_true rfl) ?_
  refine jd_callS (As := [.ref (a), .int (nI m), .ref (jd_k G 5)]) (rest := []) (ct_J5_copyOf_2 ho hb1 hb2 qc hel) rfl q269 q270 q88 q271 nJ5_copyOf_2 dJ5_copyOf_6 rfl rfl (Nat.le_of_ble_eq_true rfl) ⟨(Nat.le_of_ble_eq_true rfl), (Nat.le_of_ble_eq_true rfl), by omega, by omega⟩ (fun rv0 hn0 hq0 => ?_) jd_nox
  obtain ⟨q, hq, rfl, rfl⟩ := hq0
  exact jd_aret dJ5_copyOf_9 (Or.inr ⟨_, rfl⟩) ⟨q, hq, rfl, rfl⟩

set_option maxRecDepth 20000 in
set_option maxHeartbeats 2000000 in
theorem ct_J0_init {G : jd_G} {h : jd_H} {a : Nat} : jd_Ct G mJ0_init 1 (0) (0) [.ref (a)] h (jd_vd h) jd_no := by
  refine jd_ct (ls := [some (.ref (a))]) rfl rfl (by decide) (Nat.le_of_ble_eq_true rfl) rfl ?_
  refine jd_aload_n dJ0_init_0 rfl ?_
  refine jd_oinit q143 q130 q131 dJ0_init_1 (Nat.le_of_ble_eq_true rfl) ?_ (Nat.le_of_ble_eq_true rfl)
  exact jd_vret dJ0_init_4 rfl ⟨rfl, rfl⟩

set_option maxRecDepth 20000 in
set_option maxHeartbeats 2000000 in
theorem ct_J1_init {G : jd_G} {h : jd_H} {i : jd_Id} {a : Nat} (ho : h i = some (a, .inl (.inr (15, [.int 0, .null, .int 0])))) : jd_Ct G mJ1_init 2 (0) (0) [.ref (a)] h (jd_vd h) jd_no := by
  refine jd_ct (ls := [some (.ref (a))]) rfl rfl (by decide) (Nat.le_of_ble_eq_true rfl) rfl ?_
  refine jd_aload_n dJ1_init_0 rfl ?_
  refine jd_callI (As := []) (rest := []) (ct_J0_init) rfl rfl q140 q141 q81 q142 nJ0_init dJ1_init_1 rfl rfl (Nat.le_of_ble_eq_true rfl) ⟨(Nat.le_of_ble_eq_true rfl), (Nat.le_of_ble_eq_true rfl), by omega, by omega⟩ (fun rv0 hn0 hq0 => ?_) jd_nox
  obtain ⟨rfl, rfl⟩ := hq0
  refine jd_aload_n dJ1_init_4 rfl ?_
  refine jd_iconst (v := 0) dJ1_init_5 (by decide) ?_
  refine jd_put (fs' := [_, _, _]) in_J2 tyJ2_ok nmJ2 ho 0 q150 dJ1_init_6 rfl (Nat.le_of_ble_eq_true rfl) rfl rfl rfl (Nat.le_of_ble_eq_true rfl) rfl ?_
  rw [jd_up_id ho]
  exact jd_vret dJ1_init_9 rfl ⟨rfl, rfl⟩

set_option maxRecDepth 20000 in
set_option maxHeartbeats 2000000 in
theorem ct_J2_init {G : jd_G} {h : jd_H} {i : jd_Id} {a : Nat} (ho : h i = some (a, .inl (.inr (15, [.int 0, .null, .int 0])))) : jd_Ct G mJ2_init 3 (0) (0) [.ref (a)] h (jd_vd (jd_up h i (a, .inr (0, 0, fun _ => 0)))) jd_no := by
  refine jd_ct (ls := [some (.ref (a))]) rfl rfl (by decide) (Nat.le_of_ble_eq_true rfl) rfl ?_
  refine jd_aload_n dJ2_init_0 rfl ?_
  refine jd_callI (As := []) (rest := []) (ct_J1_init ho) rfl rfl q137 q138 q82 q139 nJ1_init dJ2_init_1 rfl rfl (Nat.le_of_ble_eq_true rfl) ⟨(Nat.le_of_ble_eq_true rfl), (Nat.le_of_ble_eq_true rfl), by omega, by omega⟩ (fun rv0 hn0 hq0 => ?_) jd_nox
  obtain ⟨rfl, rfl⟩ := hq0
  refine jd_aload_n dJ2_init_4 rfl ?_
  refine jd_gets (fun _ _ hC => hC.2.2.2.1.1) q144 dJ2_init_5 ?_
  refine jd_put (fs' := [_, _, _]) in_J2 tyJ2_ok nmJ2 ho 1 q146 dJ2_init_8 rfl (Nat.le_of_ble_eq_true rfl) rfl rfl rfl (Nat.le_of_ble_eq_true rfl) rfl ?_
  refine jd_cls0 (f := fun _ => 0) jd_up_s ?_
  rw [jd_up_up]
  exact jd_vret dJ2_init_11 rfl ⟨rfl, rfl⟩

/-- a list's array has been made anew -/
def jd_gr (G : jd_G) (h : jd_H) (i : jd_Id) (a : Nat) (mc : Int32) (n c : Nat) (g : Nat → Option Nat) : Option Value → jd_H → Prop := fun v h' => ∃ q, h (0, q) = none ∧ v = some (.ref q) ∧ h' = jd_up (jd_up h (0, q) (q, jd_la G c g)) i (a, jd_lo mc q n)
theorem jd_shr1 {n : Nat} (h : n < 2 ^ 31) : nI n >>> ((1 : Int32) &&& 31) = nI (n / 2) := by
  have k := pk_shrN (n := n) h ((1 : Int32) &&& 31) 1 (by decide)
  rw [Nat.pow_one] at k
  exact k

set_option maxRecDepth 20000 in
set_option maxHeartbeats 2000000 in
theorem ct_J2_grow_2A {G : jd_G} {h : jd_H} {i : jd_Id} {a b n : Nat} {mc : Int32} {g : Nat → Option Nat} {Cn : String} (hoi : h i = some (a, jd_lo mc b n)) (hob : h (0, b) = some (b, jd_la G n g)) (hn0 : 0 < n) (hn : n ≤ 600) (qc : Cond.castable Cn "java/lang/Object" ∈ lw_tbl) (hel : ∀ k, k < n → ∀ y, g k = some y → jd_Ob G h Cn y) : jd_Ct G mJ2_grow_2 5 (1) (n + n / 2 + 1) [.ref (a), .int (nI ((n + 1)))] h (jd_gr G h i a mc n (n + max (n + 1 - n) (n / 2)) (va_cpy g (fun _ => none) 0 0 n)) jd_no := by
  refine jd_ct (ls := [some (.ref (a)), some (.int (nI ((n + 1)))), none, none]) rfl rfl (by decide) (Nat.le_of_ble_eq_true rfl) rfl ?_
  refine jd_aload_n dJ2_grow_2_0 rfl ?_
  refine jd_get in_J2 hoi 1 q146 dJ2_grow_2_1 rfl (Nat.le_of_ble_eq_true rfl) rfl ?_
  refine jd_alen hob dJ2_grow_2_4 3 rfl ?_
  refine jd_istore_n (ls' := [_, _, _, _]) dJ2_grow_2_5 (Nat.le_of_ble_eq_true rfl) rfl rfl ?_
  refine jd_iload_n dJ2_grow_2_6 rfl ?_
  refine jd_nif_gt (a := n) (tgt := 20) dJ2_grow_2_7 (by decide) (by omega) (fun z1 => ?_) (fun z2 => ?_)
  · refine jd_iload_n dJ2_grow_2_20 rfl ?_
    refine jd_iload_n dJ2_grow_2_21 rfl ?_
    refine jd_iload_n dJ2_grow_2_22 rfl ?_
    refine jd_isubN (a := (n + 1)) (b := n) dJ2_grow_2_23 (by omega) ?_
    refine jd_iload_n dJ2_grow_2_24 rfl ?_
    refine jd_iconst (v := 1) dJ2_grow_2_25 (by decide) ?_
    refine jd_ishr dJ2_grow_2_26 ?_
    refine jd_top (congrArg Value.int (jd_shr1 (by omega) : _ = nI (n / 2))) ?_
    refine jd_pS (As := [.int (nI n), .int (nI (((n + 1) - n))), .int (nI ((n / 2)))]) (rest := []) (ct_J3_newLength (c := n) (m := ((n + 1) - n)) (k := (n / 2)) (by omega)) rfl q225 q226 q86 q227 nJ3_newLength dJ2_grow_2_27 rfl rfl (Nat.le_of_ble_eq_true rfl) ⟨(Nat.le_of_ble_eq_true rfl), (Nat.le_of_ble_eq_true rfl)⟩ ?_
    refine jd_istore_n (ls' := [_, _, _, _]) dJ2_grow_2_30 (Nat.le_of_ble_eq_true rfl) rfl rfl ?_
    refine jd_aload_n dJ2_grow_2_31 rfl ?_
    refine jd_aload_n dJ2_grow_2_32 rfl ?_
    refine jd_get in_J2 hoi 1 q146 dJ2_grow_2_33 rfl (Nat.le_of_ble_eq_true rfl) rfl ?_
    refine jd_iload_n dJ2_grow_2_36 rfl ?_
    refine jd_callS (As := [.ref (b), .int (nI ((n + max ((n + 1) - n) (n / 2))))]) (rest := [.ref (a)]) (ct_J5_copyOf hob (by omega) (by omega) qc (fun k hk y hy => hel k (by omega) y hy)) rfl q235 q236 q88 q237 nJ5_copyOf dJ2_grow_2_37 rfl rfl (Nat.le_of_ble_eq_true rfl) ⟨(Nat.le_of_ble_eq_true rfl), (Nat.le_of_ble_eq_true rfl), by omega, by omega⟩ (fun rv2 hn2 hq2 => ?_) jd_nox
    obtain ⟨q, hq, rfl, rfl⟩ := hq2
    have hiq := jd_nes hoi hq
    have hoi2 := (jd_up_n (x := (q, jd_la G (n + max (n + 1 - n) (n / 2)) (va_cpy g (fun _ => none) 0 0 (min n (n + max (n + 1 - n) (n / 2)))))) hiq).trans hoi
    refine jd_dup_x1 dJ2_grow_2_40 rfl rfl ?_
    refine jd_put (fs' := [_, _, _]) in_J2 tyJ2_ok nmJ2 hoi2 1 q146 dJ2_grow_2_41 rfl (Nat.le_of_ble_eq_true rfl) rfl rfl rfl (Nat.le_of_ble_eq_true rfl) rfl ?_
    exact jd_aret dJ2_grow_2_44 (Or.inr ⟨_, rfl⟩) ⟨q, hq, rfl, by rw [show min n (n + max (n + 1 - n) (n / 2)) = n by omega]⟩
  · omega

set_option maxRecDepth 20000 in
set_option maxHeartbeats 2000000 in
theorem ct_J2_grow_2E {G : jd_G} {h : jd_H} {i : jd_Id} {a : Nat} {mc : Int32} (hoi : h i = some (a, jd_lo mc (jd_k G 0) 0)) : jd_Ct G mJ2_grow_2 5 (1) (10) [.ref (a), .int (nI 1)] h (jd_gr G h i a mc 0 10 (fun _ => none)) jd_no := by
  refine jd_ct (ls := [some (.ref (a)), some (.int (nI 1)), none, none]) rfl rfl (by decide) (Nat.le_of_ble_eq_true rfl) rfl ?_
  refine jd_aload_n dJ2_grow_2_0 rfl ?_
  refine jd_get in_J2 hoi 1 q146 dJ2_grow_2_1 rfl (Nat.le_of_ble_eq_true rfl) rfl ?_
  refine jd_alen0 dJ2_grow_2_4 ?_
  refine jd_istore_n (ls' := [_, _, _, _]) dJ2_grow_2_5 (Nat.le_of_ble_eq_true rfl) rfl rfl ?_
  refine jd_iload_n dJ2_grow_2_6 rfl ?_
  refine jd_nif_gt (a := 0) (tgt := 20) dJ2_grow_2_7 (by decide) (by omega) (fun z1 => ?_) (fun z2 => ?_)
  · omega
  · refine jd_aload_n dJ2_grow_2_10 rfl ?_
    refine jd_get in_J2 hoi 1 q146 dJ2_grow_2_11 rfl (Nat.le_of_ble_eq_true rfl) rfl ?_
    refine jd_gets (fun _ _ hC => hC.2.2.2.1.1) q144 dJ2_grow_2_14 ?_
    refine jd_acmp_eq (tgt := 45) dJ2_grow_2_17 (by decide) (fun _ => ?_) (fun z => absurd rfl z)
    refine jd_aload_n dJ2_grow_2_45 rfl ?_
    refine jd_bipush (v := 10) dJ2_grow_2_46 (by decide) ?_
    refine jd_iload_n dJ2_grow_2_48 rfl ?_
    refine jd_mmax q281 q229 q87 q230 dJ2_grow_2_49 (Nat.le_of_ble_eq_true rfl) (Nat.le_of_ble_eq_true rfl) ?_
    refine jd_top (congrArg Value.int (jd_maxN (by omega) (by omega) : _ = nI (max (10) (1)))) ?_
    refine jd_anew (N' := 10) q282 q273 dJ2_grow_2_52 3 rfl (nI_pos (by omega)) (nI_clamp (by omega)) (by omega) (by omega) (by omega) (fun q hq => ?_)
    have hiq := jd_nes hoi hq
    have hoi2 := (jd_up_n (x := (q, jd_la G 10 (fun _ => none))) hiq).trans hoi
    refine jd_dup_x1 dJ2_grow_2_55 rfl rfl ?_
    refine jd_put (fs' := [_, _, _]) in_J2 tyJ2_ok nmJ2 hoi2 1 q146 dJ2_grow_2_56 rfl (Nat.le_of_ble_eq_true rfl) rfl rfl rfl (Nat.le_of_ble_eq_true rfl) rfl ?_
    exact jd_aret dJ2_grow_2_59 (Or.inr ⟨_, rfl⟩) ⟨q, hq, rfl, rfl⟩

set_option maxRecDepth 20000 in
set_option maxHeartbeats 2000000 in
theorem ct_J2_growA {G : jd_G} {h : jd_H} {i : jd_Id} {a b n : Nat} {mc : Int32} {g : Nat → Option Nat} {Cn : String} (hoi : h i = some (a, jd_lo mc b n)) (hob : h (0, b) = some (b, jd_la G n g)) (hn0 : 0 < n) (hn : n ≤ 600) (qc : Cond.castable Cn "java/lang/Object" ∈ lw_tbl) (hel : ∀ k, k < n → ∀ y, g k = some y → jd_Ob G h Cn y) : jd_Ct G mJ2_grow 6 (1) (n + n / 2 + 1) [.ref (a)] h (jd_gr G h i a mc n (n + max (n + 1 - n) (n / 2)) (va_cpy g (fun _ => none) 0 0 n)) jd_no := by
  refine jd_ct (ls := [some (.ref (a))]) rfl rfl (by decide) (Nat.le_of_ble_eq_true rfl) rfl ?_
  refine jd_aload_n dJ2_grow_0 rfl ?_
  refine jd_aload_n dJ2_grow_1 rfl ?_
  refine jd_get in_J2 hoi 2 q149 dJ2_grow_2 rfl (Nat.le_of_ble_eq_true rfl) rfl ?_
  refine jd_iconst (v := 1) dJ2_grow_5 (by decide) ?_
  refine jd_iaddN (a := n) (b := 1) dJ2_grow_6 ?_
  refine jd_callV (As := [.int (nI ((n + 1)))]) (rest := []) (ct_J2_grow_2A hoi hob hn0 hn qc hel) (jd_rv hoi 15 rfl rfl) rfl q221 q223 qs2 q83 q224 nJ2_grow_2 dJ2_grow_7 rfl rfl rfl (Nat.le_of_ble_eq_true rfl) ⟨(Nat.le_of_ble_eq_true rfl), (Nat.le_of_ble_eq_true rfl), by omega, by omega⟩ (fun rv0 hn0 hq0 => ?_) jd_nox
  obtain ⟨q, hq, rfl, rfl⟩ := hq0
  exact jd_aret dJ2_grow_10 (Or.inr ⟨_, rfl⟩) ⟨q, hq, rfl, rfl⟩

set_option maxRecDepth 20000 in
set_option maxHeartbeats 2000000 in
theorem ct_J2_growE {G : jd_G} {h : jd_H} {i : jd_Id} {a : Nat} {mc : Int32} (hoi : h i = some (a, jd_lo mc (jd_k G 0) 0)) : jd_Ct G mJ2_grow 6 (1) (10) [.ref (a)] h (jd_gr G h i a mc 0 10 (fun _ => none)) jd_no := by
  refine jd_ct (ls := [some (.ref (a))]) rfl rfl (by decide) (Nat.le_of_ble_eq_true rfl) rfl ?_
  refine jd_aload_n dJ2_grow_0 rfl ?_
  refine jd_aload_n dJ2_grow_1 rfl ?_
  refine jd_get in_J2 hoi 2 q149 dJ2_grow_2 rfl (Nat.le_of_ble_eq_true rfl) rfl ?_
  refine jd_iconst (v := 1) dJ2_grow_5 (by decide) ?_
  refine jd_iaddN (a := 0) (b := 1) dJ2_grow_6 ?_
  refine jd_callV (As := [.int (nI ((0 + 1)))]) (rest := []) (ct_J2_grow_2E hoi) (jd_rv hoi 15 rfl rfl) rfl q221 q223 qs2 q83 q224 nJ2_grow_2 dJ2_grow_7 rfl rfl rfl (Nat.le_of_ble_eq_true rfl) ⟨(Nat.le_of_ble_eq_true rfl), (Nat.le_of_ble_eq_true rfl), by omega, by omega⟩ (fun rv0 hn0 hq0 => ?_) jd_nox
  obtain ⟨q, hq, rfl, rfl⟩ := hq0
  exact jd_aret dJ2_grow_10 (Or.inr ⟨_, rfl⟩) ⟨q, hq, rfl, rfl⟩

/-- behind an add to an opened list: b0 its array's address before -/
def jd_ad (G : jd_G) (h : jd_H) (i : jd_Id) (a : Nat) (mc : Int32) (n x b0 : Nat) (f : Nat → Nat) : Option Value → jd_H → Prop := fun v h' => v = none ∧ ∃ b c g, (h (0, b) = none ∨ b = b0) ∧ i ≠ (0, b) ∧ n + 1 ≤ c ∧ c ≤ 1000 ∧ (∀ k, k < n → g k = some (f k)) ∧ g n = some x ∧ h' = jd_up (jd_up h (0, b) (b, jd_la G c g)) i (a, jd_lo mc b (n + 1))
theorem jd_up_sw {h : jd_H} {i j : jd_Id} {x y z : Nat × jd_E} (hij : i ≠ j) : jd_up (jd_up (jd_up h i x) j y) i z = jd_up (jd_up h j y) i z := by
  rw [jd_up_cm hij, jd_up_up]

set_option maxRecDepth 20000 in
set_option maxHeartbeats 2000000 in
theorem ct_J2_add_2N {G : jd_G} {h : jd_H} {i : jd_Id} {a b n cap x : Nat} {mc : Int32} {g : Nat → Option Nat} {f : Nat → Nat} {Cn : String} (hoi : h i = some (a, jd_lo mc b n)) (hob : h (0, b) = some (b, jd_la G cap g)) (hib : i ≠ (0, b)) (hc : n < cap) (hc2 : cap ≤ 1000) (hg : ∀ k, k < n → g k = some (f k)) (qc : Cond.castable Cn "java/lang/Object" ∈ lw_tbl) (hx : jd_Ob G h Cn x) : jd_Ct G mJ2_add_2 8 (0) (0) [.ref (a), .ref (x), .ref (b), .int (nI n)] h (jd_ad G h i a mc n x b f) jd_no := by
  refine jd_ct (ls := [some (.ref (a)), some (.ref (x)), some (.ref (b)), some (.int (nI n))]) rfl rfl (by decide) (Nat.le_of_ble_eq_true rfl) rfl ?_
  refine jd_iload_n dJ2_add_2_0 rfl ?_
  refine jd_aload_n dJ2_add_2_1 rfl ?_
  refine jd_alen hob dJ2_add_2_2 3 rfl ?_
  refine jd_ncmp_ne (a := n) (b := cap) (tgt := 11) dJ2_add_2_3 (by decide) (by omega) (by omega) (fun z1 => ?_) (fun z2 => ?_)
  · refine jd_aload_n dJ2_add_2_11 rfl ?_
    refine jd_iload_n dJ2_add_2_12 rfl ?_
    refine jd_aload_n dJ2_add_2_13 rfl ?_
    refine jd_aast hob hx.rv dJ2_add_2_14 3 rfl qc (vp_in_nI (by omega) (by omega)) ?_
    rw [nI_clamp (by omega)]
    have hoi2 := (jd_up_n (x := (b, jd_la G cap (va_up g n (some x)))) hib).trans hoi
    refine jd_aload_n dJ2_add_2_15 rfl ?_
    refine jd_iload_n dJ2_add_2_16 rfl ?_
    refine jd_iconst (v := 1) dJ2_add_2_17 (by decide) ?_
    refine jd_iaddN (a := n) (b := 1) dJ2_add_2_18 ?_
    refine jd_put (fs' := [_, _, _]) in_J2 tyJ2_ok nmJ2 hoi2 2 q149 dJ2_add_2_19 rfl (Nat.le_of_ble_eq_true rfl) rfl rfl rfl (Nat.le_of_ble_eq_true rfl) rfl ?_
    exact jd_vret dJ2_add_2_22 rfl ⟨rfl, b, cap, va_up g n (some x), Or.inr rfl, hib, by omega, hc2, fun k hk => by unfold va_up; rw [if_neg (by omega)]; exact hg k hk, if_pos rfl, rfl⟩
  · omega

set_option maxRecDepth 20000 in
set_option maxHeartbeats 2000000 in
theorem ct_J2_add_2A {G : jd_G} {h : jd_H} {i : jd_Id} {a b n : Nat} {mc : Int32} {g : Nat → Option Nat} {Cn : String} (hoi : h i = some (a, jd_lo mc b n)) (hob : h (0, b) = some (b, jd_la G n g)) (hn0 : 0 < n) (hn : n ≤ 600) (qc : Cond.castable Cn "java/lang/Object" ∈ lw_tbl) (hel : ∀ k, k < n → ∀ y, g k = some y → jd_Ob G h Cn y) {x : Nat} {f : Nat → Nat} (hg : ∀ k, k < n → g k = some (f k)) (hx : jd_Ob G h Cn x) : jd_Ct G mJ2_add_2 8 (1) (n + n / 2 + 1) [.ref (a), .ref (x), .ref (b), .int (nI n)] h (jd_ad G h i a mc n x b f) jd_no := by
  refine jd_ct (ls := [some (.ref (a)), some (.ref (x)), some (.ref (b)), some (.int (nI n))]) rfl rfl (by decide) (Nat.le_of_ble_eq_true rfl) rfl ?_
  refine jd_iload_n dJ2_add_2_0 rfl ?_
  refine jd_aload_n dJ2_add_2_1 rfl ?_
  refine jd_alen hob dJ2_add_2_2 3 rfl ?_
  refine jd_ncmp_ne (a := n) (b := n) (tgt := 11) dJ2_add_2_3 (by decide) (by omega) (by omega) (fun z1 => ?_) (fun z2 => ?_)
  · omega
  · refine jd_aload_n dJ2_add_2_6 rfl ?_
    refine jd_callV (As := []) (rest := []) (ct_J2_growA hoi hob hn0 hn qc hel) (jd_rv hoi 15 rfl rfl) rfl q217 q219 qs1 q83 q220 nJ2_grow dJ2_add_2_7 rfl rfl rfl (Nat.le_of_ble_eq_true rfl) ⟨(Nat.le_of_ble_eq_true rfl), (Nat.le_of_ble_eq_true rfl), by omega, by omega⟩ (fun rv2 hn2 hq2 => ?_) jd_nox
    obtain ⟨q, hq, rfl, rfl⟩ := hq2
    generalize hgg : va_cpy g (fun _ => none) 0 0 n = g2
    generalize hcc : n + max (n + 1 - n) (n / 2) = c2
    have hqi : ((0, q) : jd_Id) ≠ i := Ne.symm (jd_nes hoi hq)
    have hoq := (jd_up_n (h := jd_up h (0, q) (q, jd_la G c2 g2)) (x := (a, jd_lo mc q n)) hqi).trans jd_up_s
    have hkp : jd_kp h (jd_up (jd_up h (0, q) (q, jd_la G c2 g2)) i (a, jd_lo mc q n)) := (jd_kp.fresh hq).trans (jd_kp.up ((jd_up_n (Ne.symm hqi)).trans hoi) (fun _ h => h))
    have hi3 : (jd_up (jd_up (jd_up h (0, q) (q, jd_la G c2 g2)) i (a, jd_lo mc q n)) (0, q) (q, jd_la G c2 (va_up g2 n (some x)))) i = some (a, jd_lo mc q n) := (jd_up_n (Ne.symm hqi)).trans jd_up_s
    refine jd_astore_n (ls' := [_, _, _, _]) dJ2_add_2_10 (Nat.le_of_ble_eq_true rfl) rfl rfl ?_
    refine jd_aload_n dJ2_add_2_11 rfl ?_
    refine jd_iload_n dJ2_add_2_12 rfl ?_
    refine jd_aload_n dJ2_add_2_13 rfl ?_
    refine jd_aast hoq (hx.kp hkp).rv dJ2_add_2_14 3 rfl qc (vp_in_nI (by omega) (by omega)) ?_
    rw [nI_clamp (by omega)]
    refine jd_aload_n dJ2_add_2_15 rfl ?_
    refine jd_iload_n dJ2_add_2_16 rfl ?_
    refine jd_iconst (v := 1) dJ2_add_2_17 (by decide) ?_
    refine jd_iaddN (a := n) (b := 1) dJ2_add_2_18 ?_
    refine jd_put (fs' := [_, _, _]) in_J2 tyJ2_ok nmJ2 hi3 2 q149 dJ2_add_2_19 rfl (Nat.le_of_ble_eq_true rfl) rfl rfl rfl (Nat.le_of_ble_eq_true rfl) rfl ?_
    exact jd_vret dJ2_add_2_22 rfl ⟨rfl, q, c2, va_up g2 n (some x), Or.inl hq, Ne.symm hqi, by omega, by omega, fun k hk => by unfold va_up; rw [if_neg (by omega), ← hgg]; unfold va_cpy; rw [if_pos (by omega)]; simpa using hg k hk, if_pos rfl, by rw [jd_up_sw (Ne.symm hqi), jd_up_up]⟩

set_option maxRecDepth 20000 in
set_option maxHeartbeats 2000000 in
theorem ct_J2_add_2E {G : jd_G} {h : jd_H} {i : jd_Id} {a : Nat} {mc : Int32} (hoi : h i = some (a, jd_lo mc (jd_k G 0) 0)) {x : Nat} {f : Nat → Nat} {Cn : String} (qc : Cond.castable Cn "java/lang/Object" ∈ lw_tbl) (hx : jd_Ob G h Cn x) : jd_Ct G mJ2_add_2 8 (1) (10) [.ref (a), .ref (x), .ref (jd_k G 0), .int (nI 0)] h (jd_ad G h i a mc 0 x (jd_k G 0) f) jd_no := by
  refine jd_ct (ls := [some (.ref (a)), some (.ref (x)), some (.ref (jd_k G 0)), some (.int (nI 0))]) rfl rfl (by decide) (Nat.le_of_ble_eq_true rfl) rfl ?_
  refine jd_iload_n dJ2_add_2_0 rfl ?_
  refine jd_aload_n dJ2_add_2_1 rfl ?_
  refine jd_alen0 dJ2_add_2_2 ?_
  refine jd_ncmp_ne (a := 0) (b := 0) (tgt := 11) dJ2_add_2_3 (by decide) (by omega) (by omega) (fun z1 => ?_) (fun z2 => ?_)
  · omega
  · refine jd_aload_n dJ2_add_2_6 rfl ?_
    refine jd_callV (As := []) (rest := []) (ct_J2_growE hoi) (jd_rv hoi 15 rfl rfl) rfl q217 q219 qs1 q83 q220 nJ2_grow dJ2_add_2_7 rfl rfl rfl (Nat.le_of_ble_eq_true rfl) ⟨(Nat.le_of_ble_eq_true rfl), (Nat.le_of_ble_eq_true rfl), by omega, by omega⟩ (fun rv2 hn2 hq2 => ?_) jd_nox
    obtain ⟨q, hq, rfl, rfl⟩ := hq2
    have hqi : ((0, q) : jd_Id) ≠ i := Ne.symm (jd_nes hoi hq)
    have hoq := (jd_up_n (h := jd_up h (0, q) (q, jd_la G 10 (fun _ => none))) (x := (a, jd_lo mc q 0)) hqi).trans jd_up_s
    have hkp : jd_kp h (jd_up (jd_up h (0, q) (q, jd_la G 10 (fun _ => none))) i (a, jd_lo mc q 0)) := (jd_kp.fresh hq).trans (jd_kp.up ((jd_up_n (Ne.symm hqi)).trans hoi) (fun _ h => h))
    have hi3 : (jd_up (jd_up (jd_up h (0, q) (q, jd_la G 10 (fun _ => none))) i (a, jd_lo mc q 0)) (0, q) (q, jd_la G 10 (va_up (fun _ => none) 0 (some x)))) i = some (a, jd_lo mc q 0) := (jd_up_n (Ne.symm hqi)).trans jd_up_s
    refine jd_astore_n (ls' := [_, _, _, _]) dJ2_add_2_10 (Nat.le_of_ble_eq_true rfl) rfl rfl ?_
    refine jd_aload_n dJ2_add_2_11 rfl ?_
    refine jd_iload_n dJ2_add_2_12 rfl ?_
    refine jd_aload_n dJ2_add_2_13 rfl ?_
    refine jd_aast hoq (hx.kp hkp).rv dJ2_add_2_14 3 rfl qc (vp_in_nI (by omega) (by omega)) ?_
    rw [nI_clamp (by omega)]
    refine jd_aload_n dJ2_add_2_15 rfl ?_
    refine jd_iload_n dJ2_add_2_16 rfl ?_
    refine jd_iconst (v := 1) dJ2_add_2_17 (by decide) ?_
    refine jd_iaddN (a := 0) (b := 1) dJ2_add_2_18 ?_
    refine jd_put (fs' := [_, _, _]) in_J2 tyJ2_ok nmJ2 hi3 2 q149 dJ2_add_2_19 rfl (Nat.le_of_ble_eq_true rfl) rfl rfl rfl (Nat.le_of_ble_eq_true rfl) rfl ?_
    exact jd_vret dJ2_add_2_22 rfl ⟨rfl, q, 10, va_up (fun _ => none) 0 (some x), Or.inl hq, Ne.symm hqi, by omega, by omega, fun k hk => absurd hk (Nat.not_lt_zero k), if_pos rfl, by rw [jd_up_sw (Ne.symm hqi), jd_up_up]⟩

theorem jd_dadd {h h3 : jd_H} {i j0 : jd_Id} {L p r : Nat × jd_E} (hk : ∀ j y, j ≠ i → h j = some y → h3 j = some y) (hij : i ≠ j0) (hor : h3 j0 = none ∨ h j0 = none) : ∀ j y, jd_up h i L j = some y → jd_up (jd_rm (jd_up (jd_up h3 j0 p) i r) j0) i L j = some y := by
  have hb : h j0 = none := by
    rcases hor with e | e
    · cases e2 : h j0 with
      | none => rfl
      | some y => rw [hk j0 y (Ne.symm hij) e2] at e; cases e
    · exact e
  intro j y hj
  by_cases e1 : j = i
  · subst e1; rw [jd_up_s] at hj ⊢; exact hj
  · rw [jd_up_n e1] at hj ⊢
    have e2 : j ≠ j0 := fun z => by rw [z, hb] at hj; cases hj
    rw [jd_rm_n e2, jd_up_n e1, jd_up_n e2]
    exact hk j y e1 hj
theorem jd_hk1 {h : jd_H} {i : jd_Id} {p r : Nat × jd_E} : ∀ j y, j ≠ i → h j = some y → jd_up (jd_up h i p) i r j = some y := fun j y hj e => by rw [jd_up_n hj, jd_up_n hj]; exact e
theorem jd_hk2 {h : jd_H} {i j0 : jd_Id} {p q r : Nat × jd_E} (h0 : h j0 = none) : ∀ j y, j ≠ i → h j = some y → jd_up (jd_up (jd_up h i p) j0 q) i r j = some y := fun j y hj e => by
  have e2 : j ≠ j0 := fun z => by rw [z, h0] at e; cases e
  rw [jd_up_n hj, jd_up_n e2, jd_up_n hj]; exact e
/-- the list's contents behind an add -/
theorem jd_addg {g : Nat → Option Nat} {f : Nat → Nat} {n x : Nat} (hg : ∀ k, k < n → g k = some (f k)) (hx : g n = some x) : ∀ k, k < n + 1 → g k = some (va_up f n x k) := fun k hk => by
  by_cases e : k = n
  · subst e; rw [hx]; unfold va_up; rw [if_pos rfl]
  · unfold va_up; rw [if_neg e]; exact hg k (by omega)

theorem jd_free0 {G : jd_G} {M : jd_M} {d cb sb pc : Nat} {ls : List (Option Value)} {st : List Value} {h : jd_H} {Q : Option Value → jd_H → Prop} {X : String → jd_H → Prop} {i : jd_Id} {x : Nat × jd_E} (k : h (0, jd_k G 0) = none → jd_W G M d cb sb pc ls st (jd_up h i x) Q X) : jd_W G M d cb sb pc ls st (jd_up h i x) Q X := by
  intro p l e R s m args below meth c H locs cells slots la C h1 h2 hP hS hl
  refine k ?_ p l e R s m args below meth c H locs cells slots la C h1 h2 hP hS hl
  cases hh : h (0, jd_k G 0) with
  | none => rfl
  | some y =>
    exfalso
    have h9 : ∃ y', jd_up h i x (0, jd_k G 0) = some y' := by
      by_cases e1 : ((0, jd_k G 0) : jd_Id) = i
      · exact ⟨x, by rw [e1]; exact jd_up_s⟩
      · exact ⟨y, (jd_up_n e1).trans hh⟩
    obtain ⟨⟨a', e'⟩, h9⟩ := h9
    have hlo := hP.lo h9
    obtain ⟨c', hc', hR⟩ := hP
    obtain ⟨v, e1⟩ := jd_Hp.main hR h9
    have ea := hc'.2.2 _ _ _ e1
    subst ea
    exact (va_T.out C.2.2.2.2.2.2.2.2.1.2.1.2.2.2.1.2) hlo

set_option maxHeartbeats 2000000 in
theorem ct_J2_add {G : jd_G} {h : jd_H} {i : jd_Id} {a : Nat} {mc : Int32} {n : Nat} {f : Nat → Nat} (ho : h i = some (a, .inr (mc, n, f))) (hn : n ≤ 600) {x : Nat} {Cn : String} (qc : Cond.castable Cn "java/lang/Object" ∈ lw_tbl) (hel : ∀ k, k < n → jd_Ob G h Cn (f k)) (hx : jd_Ob G h Cn x) : jd_Ct G mJ2_add 10 1 (n + n / 2 + 10) [.ref a, .ref x] h (fun v h' => v = some (.int 1) ∧ h' = jd_up h i (a, .inr (mc + 1, n + 1, va_up f n x))) jd_no := by
  refine jd_ct (ls := [some (.ref a), some (.ref x)]) rfl rfl (by decide) (Nat.le_of_ble_eq_true rfl) rfl ?_
  refine jd_opn ho (fun e0 => ?_) (fun b cap g hb1 hb2 hb0 hg hfr => ?_)
  · simp only at e0
    subst e0
    refine jd_free0 (fun hE => ?_)
    refine jd_aload_n dJ2_add_0 rfl ?_
    refine jd_dup dJ2_add_1 rfl ?_
    refine jd_getS in_J2 jd_up_s 0 q153 q152 dJ2_add_2 rfl (Nat.le_of_ble_eq_true rfl) rfl ?_
    refine jd_iconst (v := 1) dJ2_add_5 (by decide) ?_
    refine jd_iadd dJ2_add_6 ?_
    refine jd_putS (fs' := [_, _, _]) in_J2 tyJ2_ok nmJ2 jd_up_s 0 q153 q152 dJ2_add_7 rfl (Nat.le_of_ble_eq_true rfl) rfl rfl rfl (Nat.le_of_ble_eq_true rfl) rfl ?_
    have hoi := jd_up_s (h := jd_up h i (a, jd_lo mc (jd_k G 0) 0)) (i := i) (x := (a, jd_lo (mc + 1) (jd_k G 0) 0))
    have hkp : jd_kp h (jd_up (jd_up h i (a, jd_lo mc (jd_k G 0) 0)) i (a, jd_lo (mc + 1) (jd_k G 0) 0)) := (jd_kp.up (e' := jd_lo mc (jd_k G 0) 0) ho (fun _ h => h)).trans (jd_kp.up (e' := jd_lo (mc + 1) (jd_k G 0) 0) jd_up_s (fun _ h => h))
    refine jd_aload_n dJ2_add_10 rfl ?_
    refine jd_aload_n dJ2_add_11 rfl ?_
    refine jd_aload_n dJ2_add_12 rfl ?_
    refine jd_get in_J2 hoi 1 q146 dJ2_add_13 rfl (Nat.le_of_ble_eq_true rfl) rfl ?_
    refine jd_aload_n dJ2_add_16 rfl ?_
    refine jd_get in_J2 hoi 2 q149 dJ2_add_17 rfl (Nat.le_of_ble_eq_true rfl) rfl ?_
    refine jd_callV (As := [.ref (x), .ref (jd_k G 0), .int (nI 0)]) (rest := []) (ct_J2_add_2E hoi qc (hx.kp hkp) (f := f)) (jd_rv hoi 15 rfl rfl) rfl q213 q215 qs0 q83 q216 nJ2_add_2 dJ2_add_20 rfl rfl rfl (Nat.le_of_ble_eq_true rfl) ⟨(Nat.le_of_ble_eq_true rfl), (Nat.le_of_ble_eq_true rfl), by omega, by omega⟩ (fun rv0 hn0 hq0 => ?_) jd_nox
    obtain ⟨rfl, b', c', g', hor, hib', hc1, hc3, hg', hgx, rfl⟩ := hq0
    refine jd_cls (f := va_up f 0 x) jd_up_s ((jd_up_n (Ne.symm hib')).trans jd_up_s) hc1 hc3 (by omega) (jd_addg hg' hgx) ?_
    refine jd_drop (h' := jd_up h i (a, .inr (mc + 1, 0 + 1, va_up f 0 x))) ?_ ?_
    · exact jd_dadd jd_hk1 hib' (hor.imp id (fun e => by subst e; exact hE))
    refine jd_iconst (v := 1) dJ2_add_23 (by decide) ?_
    exact jd_zret dJ2_add_24 rfl (Or.inr rfl) ⟨rfl, rfl⟩
  · simp only at hb1 hg
    have hib := jd_nes ho hfr
    have hoi0 : (jd_up (jd_up h i (a, jd_lo mc b n)) (0, b) (b, jd_la G cap g)) i = some (a, jd_lo mc b n) := (jd_up_n hib).trans jd_up_s
    by_cases hnc : n < cap
    · refine jd_aload_n dJ2_add_0 rfl ?_
      refine jd_dup dJ2_add_1 rfl ?_
      refine jd_getS in_J2 hoi0 0 q153 q152 dJ2_add_2 rfl (Nat.le_of_ble_eq_true rfl) rfl ?_
      refine jd_iconst (v := 1) dJ2_add_5 (by decide) ?_
      refine jd_iadd dJ2_add_6 ?_
      refine jd_putS (fs' := [_, _, _]) in_J2 tyJ2_ok nmJ2 hoi0 0 q153 q152 dJ2_add_7 rfl (Nat.le_of_ble_eq_true rfl) rfl rfl rfl (Nat.le_of_ble_eq_true rfl) rfl ?_
      have hoi := jd_up_s (h := jd_up (jd_up h i (a, jd_lo mc b n)) (0, b) (b, jd_la G cap g)) (i := i) (x := (a, jd_lo (mc + 1) b n))
      have hob := (jd_up_n (h := jd_up (jd_up h i (a, jd_lo mc b n)) (0, b) (b, jd_la G cap g)) (i := i) (x := (a, jd_lo (mc + 1) b n)) (Ne.symm hib)).trans jd_up_s
      have hkp : jd_kp h (jd_up (jd_up (jd_up h i (a, jd_lo mc b n)) (0, b) (b, jd_la G cap g)) i (a, jd_lo (mc + 1) b n)) := ((jd_kp.up (e' := jd_lo mc b n) ho (fun _ h => h)).trans (jd_kp.fresh ((jd_up_n (Ne.symm hib)).trans hfr))).trans (jd_kp.up (e' := jd_lo (mc + 1) b n) hoi0 (fun _ h => h))
      refine jd_aload_n dJ2_add_10 rfl ?_
      refine jd_aload_n dJ2_add_11 rfl ?_
      refine jd_aload_n dJ2_add_12 rfl ?_
      refine jd_get in_J2 hoi 1 q146 dJ2_add_13 rfl (Nat.le_of_ble_eq_true rfl) rfl ?_
      refine jd_aload_n dJ2_add_16 rfl ?_
      refine jd_get in_J2 hoi 2 q149 dJ2_add_17 rfl (Nat.le_of_ble_eq_true rfl) rfl ?_
      refine jd_callV (As := [.ref (x), .ref (b), .int (nI n)]) (rest := []) (ct_J2_add_2N hoi hob hib hnc hb2 hg qc (hx.kp hkp)) (jd_rv hoi 15 rfl rfl) rfl q213 q215 qs0 q83 q216 nJ2_add_2 dJ2_add_20 rfl rfl rfl (Nat.le_of_ble_eq_true rfl) ⟨(Nat.le_of_ble_eq_true rfl), (Nat.le_of_ble_eq_true rfl), by omega, by omega⟩ (fun rv1 hn1 hq1 => ?_) jd_nox
      obtain ⟨rfl, b', c', g', hor, hib', hc1, hc3, hg', hgx, rfl⟩ := hq1
      refine jd_cls (f := va_up f n x) jd_up_s ((jd_up_n (Ne.symm hib')).trans jd_up_s) hc1 hc3 (by omega) (jd_addg hg' hgx) ?_
      refine jd_drop (h' := jd_up h i (a, .inr (mc + 1, n + 1, va_up f n x))) ?_ ?_
      · exact jd_dadd (jd_hk2 hfr) hib' (hor.imp id (fun e => by rw [e]; exact hfr))
      refine jd_iconst (v := 1) dJ2_add_23 (by decide) ?_
      exact jd_zret dJ2_add_24 rfl (Or.inr rfl) ⟨rfl, rfl⟩
    · have hnc : n = cap := by omega
      subst hnc
      refine jd_aload_n dJ2_add_0 rfl ?_
      refine jd_dup dJ2_add_1 rfl ?_
      refine jd_getS in_J2 hoi0 0 q153 q152 dJ2_add_2 rfl (Nat.le_of_ble_eq_true rfl) rfl ?_
      refine jd_iconst (v := 1) dJ2_add_5 (by decide) ?_
      refine jd_iadd dJ2_add_6 ?_
      refine jd_putS (fs' := [_, _, _]) in_J2 tyJ2_ok nmJ2 hoi0 0 q153 q152 dJ2_add_7 rfl (Nat.le_of_ble_eq_true rfl) rfl rfl rfl (Nat.le_of_ble_eq_true rfl) rfl ?_
      have hoi := jd_up_s (h := jd_up (jd_up h i (a, jd_lo mc b n)) (0, b) (b, jd_la G n g)) (i := i) (x := (a, jd_lo (mc + 1) b n))
      have hob := (jd_up_n (h := jd_up (jd_up h i (a, jd_lo mc b n)) (0, b) (b, jd_la G n g)) (i := i) (x := (a, jd_lo (mc + 1) b n)) (Ne.symm hib)).trans jd_up_s
      have hkp : jd_kp h (jd_up (jd_up (jd_up h i (a, jd_lo mc b n)) (0, b) (b, jd_la G n g)) i (a, jd_lo (mc + 1) b n)) := ((jd_kp.up (e' := jd_lo mc b n) ho (fun _ h => h)).trans (jd_kp.fresh ((jd_up_n (Ne.symm hib)).trans hfr))).trans (jd_kp.up (e' := jd_lo (mc + 1) b n) hoi0 (fun _ h => h))
      refine jd_aload_n dJ2_add_10 rfl ?_
      refine jd_aload_n dJ2_add_11 rfl ?_
      refine jd_aload_n dJ2_add_12 rfl ?_
      refine jd_get in_J2 hoi 1 q146 dJ2_add_13 rfl (Nat.le_of_ble_eq_true rfl) rfl ?_
      refine jd_aload_n dJ2_add_16 rfl ?_
      refine jd_get in_J2 hoi 2 q149 dJ2_add_17 rfl (Nat.le_of_ble_eq_true rfl) rfl ?_
      refine jd_callV (As := [.ref (x), .ref (b), .int (nI n)]) (rest := []) (ct_J2_add_2A hoi hob (by omega) hn qc (fun k hk y hy => by rw [hg k hk] at hy; cases hy; exact (hel k hk).kp hkp) hg (hx.kp hkp)) (jd_rv hoi 15 rfl rfl) rfl q213 q215 qs0 q83 q216 nJ2_add_2 dJ2_add_20 rfl rfl rfl (Nat.le_of_ble_eq_true rfl) ⟨(Nat.le_of_ble_eq_true rfl), (Nat.le_of_ble_eq_true rfl), by omega, by omega⟩ (fun rv2 hn2 hq2 => ?_) jd_nox
      obtain ⟨rfl, b', c', g', hor, hib', hc1, hc3, hg', hgx, rfl⟩ := hq2
      refine jd_cls (f := va_up f n x) jd_up_s ((jd_up_n (Ne.symm hib')).trans jd_up_s) hc1 hc3 (by omega) (jd_addg hg' hgx) ?_
      refine jd_drop (h' := jd_up h i (a, .inr (mc + 1, n + 1, va_up f n x))) ?_ ?_
      · exact jd_dadd (jd_hk2 hfr) hib' (hor.imp id (fun e => by rw [e]; exact hfr))
      refine jd_iconst (v := 1) dJ2_add_23 (by decide) ?_
      exact jd_zret dJ2_add_24 rfl (Or.inr rfl) ⟨rfl, rfl⟩

/-- behind fastRemove on an opened list -/
def jd_fr (G : jd_G) (h : jd_H) (i : jd_Id) (a b cap : Nat) (mc : Int32) (n k : Nat) (f : Nat → Nat) : Option Value → jd_H → Prop := fun v h' => v = none ∧ ∃ g, (∀ j, j < n - 1 → g j = some (if j < k then f j else f (j + 1))) ∧ h' i = some (a, jd_lo (mc + 1) b (n - 1)) ∧ h' (0, b) = some (b, jd_la G cap g) ∧ ∀ j, j ≠ i → j ≠ (0, b) → h' j = h j

theorem jd_frg {g : Nat → Option Nat} {f : Nat → Nat} {n k : Nat} (hk : k < n) (hn : n ≤ 1000) (hg : ∀ k, k < n → g k = some (f k)) : ∀ j, j < n - 1 → (va_up (va_cpy g g (k + 1) k (n - 1 - k)) (nI (n - 1)).toNatClampNeg none) j = some (if j < k then f j else f (j + 1)) := fun j hj => by
  unfold va_up
  rw [nI_clamp (by omega), if_neg (by omega)]
  unfold va_cpy
  by_cases hjk : j < k
  · rw [if_neg (by omega), if_pos hjk]; exact hg j (by omega)
  · rw [if_pos (by omega), if_neg hjk, show k + 1 + (j - k) = j + 1 by omega]; exact hg _ (by omega)
theorem jd_frg0 {g : Nat → Option Nat} {f : Nat → Nat} {n k : Nat} (hkn : n - 1 ≤ k) (hk : k < n) (hn : n ≤ 1000) (hg : ∀ k, k < n → g k = some (f k)) : ∀ j, j < n - 1 → (va_up g (nI (n - 1)).toNatClampNeg none) j = some (if j < k then f j else f (j + 1)) := fun j hj => by
  unfold va_up
  rw [nI_clamp (by omega), if_neg (by omega), if_pos (by omega)]
  exact hg j (by omega)

set_option maxRecDepth 20000 in
set_option maxHeartbeats 2000000 in
theorem ct_J2_fastRemove {G : jd_G} {h : jd_H} {i : jd_Id} {a b n cap k : Nat} {mc : Int32} {g : Nat → Option Nat} {f : Nat → Nat} {Cn : String} (hoi : h i = some (a, jd_lo mc b n)) (hob : h (0, b) = some (b, jd_la G cap g)) (hib : i ≠ (0, b)) (hk : k < n) (hc : n ≤ cap) (hc2 : cap ≤ 1000) (hg : ∀ k, k < n → g k = some (f k)) (qc : Cond.castable Cn "java/lang/Object" ∈ lw_tbl) (hel : ∀ k, k < n → jd_Ob G h Cn (f k)) : jd_Ct G mJ2_fastRemove 8 (0) (0) [.ref (a), .ref (b), .int (nI k)] h (jd_fr G h i a b cap mc n k f) jd_no := by
  refine jd_ct (ls := [some (.ref (a)), some (.ref (b)), some (.int (nI k)), none]) rfl rfl (by decide) (Nat.le_of_ble_eq_true rfl) rfl ?_
  refine jd_aload_n dJ2_fastRemove_0 rfl ?_
  refine jd_dup dJ2_fastRemove_1 rfl ?_
  refine jd_getS in_J2 hoi 0 q153 q152 dJ2_fastRemove_2 rfl (Nat.le_of_ble_eq_true rfl) rfl ?_
  refine jd_iconst (v := 1) dJ2_fastRemove_5 (by decide) ?_
  refine jd_iadd dJ2_fastRemove_6 ?_
  refine jd_putS (fs' := [_, _, _]) in_J2 tyJ2_ok nmJ2 hoi 0 q153 q152 dJ2_fastRemove_7 rfl (Nat.le_of_ble_eq_true rfl) rfl rfl rfl (Nat.le_of_ble_eq_true rfl) rfl ?_
  refine jd_updG (fun h1 hs1 ho1 => ?_)
  have hf1_1 := (ho1 _ (Ne.symm hib)).trans hob
  have kp1 := (jd_kp.of hoi hs1 ho1 (fun _ h => h))
  refine jd_aload_n dJ2_fastRemove_10 rfl ?_
  refine jd_get in_J2 hs1 2 q149 dJ2_fastRemove_11 rfl (Nat.le_of_ble_eq_true rfl) rfl ?_
  refine jd_iconst (v := 1) dJ2_fastRemove_14 (by decide) ?_
  refine jd_isubN (a := n) (b := 1) dJ2_fastRemove_15 (by omega) ?_
  refine jd_dup dJ2_fastRemove_16 rfl ?_
  refine jd_istore_n (ls' := [_, _, _, _]) dJ2_fastRemove_17 (Nat.le_of_ble_eq_true rfl) rfl rfl ?_
  refine jd_iload_n dJ2_fastRemove_18 rfl ?_
  refine jd_ncmp_le (a := (n - 1)) (b := k) (tgt := 34) dJ2_fastRemove_19 (by decide) (by omega) (by omega) (fun z2 => ?_) (fun z3 => ?_)
  · refine jd_aload_n dJ2_fastRemove_34 rfl ?_
    refine jd_aload_n dJ2_fastRemove_35 rfl ?_
    refine jd_iload_n dJ2_fastRemove_36 rfl ?_
    refine jd_dup_x1 dJ2_fastRemove_37 rfl rfl ?_
    refine jd_put (fs' := [_, _, _]) in_J2 tyJ2_ok nmJ2 hs1 2 q149 dJ2_fastRemove_38 rfl (Nat.le_of_ble_eq_true rfl) rfl rfl rfl (Nat.le_of_ble_eq_true rfl) rfl ?_
    refine jd_updG (fun h4 hs4 ho4 => ?_)
    have hf4_1 := (ho4 _ (Ne.symm hib)).trans hf1_1
    have kp4 := jd_kp.trans kp1 (jd_kp.of hs1 hs4 ho4 (fun _ h => h))
    refine jd_null dJ2_fastRemove_41 ?_
    refine jd_aastN hf4_1 dJ2_fastRemove_42 3 rfl (vp_in_nI (by omega) (by omega)) ?_
    refine jd_updG (fun h5 hs5 ho5 => ?_)
    have hf5_0 := (ho5 _ hib).trans hs4
    have kp5 := jd_kp.trans kp4 (jd_kp.of hf4_1 hs5 ho5 (fun _ h => h))
    exact jd_vret dJ2_fastRemove_43 rfl ⟨rfl, _, (jd_frg0 (k := k) (by omega) hk (by omega) hg), hf5_0, hs5, fun j h1 h2 => ((ho5 j h2).trans ((ho4 j h1).trans (ho1 j h1)))⟩
  · refine jd_aload_n dJ2_fastRemove_22 rfl ?_
    refine jd_iload_n dJ2_fastRemove_23 rfl ?_
    refine jd_iconst (v := 1) dJ2_fastRemove_24 (by decide) ?_
    refine jd_iaddN (a := k) (b := 1) dJ2_fastRemove_25 ?_
    refine jd_aload_n dJ2_fastRemove_26 rfl ?_
    refine jd_iload_n dJ2_fastRemove_27 rfl ?_
    refine jd_iload_n dJ2_fastRemove_28 rfl ?_
    refine jd_iload_n dJ2_fastRemove_29 rfl ?_
    refine jd_isubN (a := (n - 1)) (b := k) dJ2_fastRemove_30 (by omega) ?_
    refine jd_acopy (n := n - 1 - k) (sp := k + 1) (dp := k) q1014 q280 q279 q89 dJ2_fastRemove_31 hf1_1 hf1_1 (t0 := 3) (t1 := 3) rfl rfl qc (by omega) (by omega) ⟨by omega, by omega, by omega⟩ (fun j hj y hy => by rw [hg _ (by omega)] at hy; cases hy; exact ((hel _ (by omega)).kp kp1).rv) (Nat.le_of_ble_eq_true rfl) (Nat.le_of_ble_eq_true rfl) ?_
    refine jd_updG (fun h6 hs6 ho6 => ?_)
    have hf6_0 := (ho6 _ hib).trans hs1
    have kp6 := jd_kp.trans kp1 (jd_kp.of hf1_1 hs6 ho6 (fun _ h => h))
    refine jd_aload_n dJ2_fastRemove_34 rfl ?_
    refine jd_aload_n dJ2_fastRemove_35 rfl ?_
    refine jd_iload_n dJ2_fastRemove_36 rfl ?_
    refine jd_dup_x1 dJ2_fastRemove_37 rfl rfl ?_
    refine jd_put (fs' := [_, _, _]) in_J2 tyJ2_ok nmJ2 hf6_0 2 q149 dJ2_fastRemove_38 rfl (Nat.le_of_ble_eq_true rfl) rfl rfl rfl (Nat.le_of_ble_eq_true rfl) rfl ?_
    refine jd_updG (fun h7 hs7 ho7 => ?_)
    have hf7_1 := (ho7 _ (Ne.symm hib)).trans hs6
    have kp7 := jd_kp.trans kp6 (jd_kp.of hf6_0 hs7 ho7 (fun _ h => h))
    refine jd_null dJ2_fastRemove_41 ?_
    refine jd_aastN hf7_1 dJ2_fastRemove_42 3 rfl (vp_in_nI (by omega) (by omega)) ?_
    refine jd_updG (fun h8 hs8 ho8 => ?_)
    have hf8_0 := (ho8 _ hib).trans hs7
    have kp8 := jd_kp.trans kp7 (jd_kp.of hf7_1 hs8 ho8 (fun _ h => h))
    exact jd_vret dJ2_fastRemove_43 rfl ⟨rfl, _, (jd_frg hk (by omega) hg), hf8_0, hs8, fun j h1 h2 => ((ho8 j h2).trans ((ho7 j h1).trans ((ho6 j h2).trans (ho1 j h1))))⟩

set_option maxHeartbeats 2000000 in
theorem ct_J2_remove {G : jd_G} {h : jd_H} {i : jd_Id} {a : Nat} {mc : Int32} {n : Nat} {f : Nat → Nat} (ho : h i = some (a, .inr (mc, n, f))) (hn : n ≤ 900) {k : Nat} {Cn : String} (hk : k < n) (qc : Cond.castable Cn "java/lang/Object" ∈ lw_tbl) (hel : ∀ k, k < n → jd_Ob G h Cn (f k)) : jd_Ct G mJ2_remove 10 0 0 [.ref a, .int (nI k)] h (fun v h' => v = some (.ref (f k)) ∧ h' = jd_up h i (a, .inr (mc + 1, n - 1, fun j => if j < k then f j else f (j + 1)))) jd_no := by
  refine jd_ct (ls := [some (.ref (a)), some (.int (nI k)), none, none]) rfl rfl (by decide) (Nat.le_of_ble_eq_true rfl) rfl ?_
  refine jd_opn ho (fun e0 => absurd hk (by simp only at e0; omega)) (fun b cap g hb1 hb2 hb0 hg hfr => ?_)
  simp only at hb1 hg
  have hib := jd_nes ho hfr
  have hoi : (jd_up (jd_up h i (a, jd_lo mc b n)) (0, b) (b, jd_la G cap g)) i = some (a, jd_lo mc b n) := (jd_up_n hib).trans jd_up_s
  have hob := jd_up_s (h := jd_up h i (a, jd_lo mc b n)) (i := (0, b)) (x := (b, jd_la G cap g))
  have hkp : jd_kp h (jd_up (jd_up h i (a, jd_lo mc b n)) (0, b) (b, jd_la G cap g)) := (jd_kp.up (e' := jd_lo mc b n) ho (fun _ h => h)).trans (jd_kp.fresh ((jd_up_n (Ne.symm hib)).trans hfr))
  refine jd_iload_n dJ2_remove_0 rfl ?_
  refine jd_aload_n dJ2_remove_1 rfl ?_
  refine jd_get in_J2 hoi 2 q149 dJ2_remove_2 rfl (Nat.le_of_ble_eq_true rfl) rfl ?_
  refine jd_pS (As := [.int (nI k), .int (nI n)]) (rest := []) (ct_J12_checkIndex (x := k) (y := n) (by omega) (by omega)) rfl q328 q329 q99 q330 nJ12_checkIndex dJ2_remove_5 rfl rfl (Nat.le_of_ble_eq_true rfl) ⟨(Nat.le_of_ble_eq_true rfl), (Nat.le_of_ble_eq_true rfl)⟩ ?_
  refine jd_pop dJ2_remove_8 rfl ?_
  refine jd_aload_n dJ2_remove_9 rfl ?_
  refine jd_get in_J2 hoi 1 q146 dJ2_remove_10 rfl (Nat.le_of_ble_eq_true rfl) rfl ?_
  refine jd_astore_n (ls' := [_, _, _, _]) dJ2_remove_13 (Nat.le_of_ble_eq_true rfl) rfl rfl ?_
  refine jd_aload_n dJ2_remove_14 rfl ?_
  refine jd_iload_n dJ2_remove_15 rfl ?_
  refine jd_aald (y := f k) hob dJ2_remove_16 3 rfl (vp_in_nI (by omega) (by omega)) (by rw [nI_clamp (by omega)]; exact hg k hk) ?_
  refine jd_astore_n (ls' := [_, _, _, _]) dJ2_remove_17 (Nat.le_of_ble_eq_true rfl) rfl rfl ?_
  refine jd_aload_n dJ2_remove_18 rfl ?_
  refine jd_aload_n dJ2_remove_19 rfl ?_
  refine jd_iload_n dJ2_remove_20 rfl ?_
  refine jd_callV (As := [.ref (b), .int (nI k)]) (rest := []) (ct_J2_fastRemove hoi hob hib hk hb1 hb2 hg qc (fun k hk => (hel k hk).kp hkp)) (jd_rv hoi 15 rfl rfl) rfl q1010 q1012 qs39 q83 q1013 nJ2_fastRemove dJ2_remove_21 rfl rfl rfl (Nat.le_of_ble_eq_true rfl) ⟨(Nat.le_of_ble_eq_true rfl), (Nat.le_of_ble_eq_true rfl), by omega, by omega⟩ (fun rv0 hn0 hq0 => ?_) jd_nox
  obtain ⟨rfl, g2, hg2, hi2, hb3, hot⟩ := hq0
  refine jd_cls (f := fun j => if j < k then f j else f (j + 1)) hi2 hb3 (by omega) hb2 hb0 hg2 ?_
  refine jd_drop (h' := jd_up h i (a, .inr (mc + 1, n - 1, fun j => if j < k then f j else f (j + 1)))) (fun j y hj => ?_) ?_
  · by_cases e1 : j = i
    · subst e1; rw [jd_up_s] at hj ⊢; exact hj
    · rw [jd_up_n e1] at hj ⊢
      have e2 : j ≠ (0, b) := fun z => by rw [z, hfr] at hj; cases hj
      rw [jd_rm_n e2, hot j e1 e2, jd_up_n e2, jd_up_n e1]; exact hj
  refine jd_aload_n dJ2_remove_24 rfl ?_
  exact jd_aret dJ2_remove_25 (Or.inl ⟨_, rfl⟩) ⟨rfl, rfl⟩

set_option maxRecDepth 20000 in
set_option maxHeartbeats 2000000 in
theorem ct_J2_rangeCheckForAdd {G : jd_G} {h : jd_H} {i : jd_Id} {a : Nat} {mc : Int32} {n : Nat} {f : Nat → Nat} (ho : h i = some (a, .inr (mc, n, f))) (hn : n ≤ 900) {k : Nat} (hk : k ≤ n) : jd_Ct G mJ2_rangeCheckForAdd 0 (0) (0) [.ref (a), .int (nI k)] h (jd_vd h) jd_no := by
  refine jd_ct (ls := [some (.ref (a)), some (.int (nI k))]) rfl rfl (by decide) (Nat.le_of_ble_eq_true rfl) rfl ?_
  refine jd_iload_n dJ2_rangeCheckForAdd_0 rfl ?_
  refine jd_aload_n dJ2_rangeCheckForAdd_1 rfl ?_
  refine jd_getL ho 2 q149 (Or.inl rfl) dJ2_rangeCheckForAdd_2 (v := .int (nI n)) (Or.inr ⟨rfl, rfl⟩) ?_
  refine jd_ncmp_gt (a := k) (b := n) (tgt := 12) dJ2_rangeCheckForAdd_5 (by decide) (by omega) (by omega) (fun z1 => ?_) (fun z2 => ?_)
  · omega
  · refine jd_iload_n dJ2_rangeCheckForAdd_8 rfl ?_
    refine jd_nif_ge (a := k) (tgt := 25) dJ2_rangeCheckForAdd_9 (by decide) (by omega) ?_
    exact jd_vret dJ2_rangeCheckForAdd_25 rfl ⟨rfl, rfl⟩

theorem jd_a3g {g : Nat → Option Nat} {f : Nat → Nat} {n k x : Nat} (hk : k ≤ n) (hn : n ≤ 1000) (hg : ∀ k, k < n → g k = some (f k)) : ∀ j, j < n + 1 → (va_up (va_cpy g g k (k + 1) (n - k)) (nI k).toNatClampNeg (some x)) j = some (if j < k then f j else if j = k then x else f (j - 1)) := fun j hj => by
  unfold va_up
  rw [nI_clamp (by omega)]
  by_cases e1 : j = k
  · rw [if_pos e1, if_neg (by omega), if_pos e1]
  · rw [if_neg e1]
    unfold va_cpy
    by_cases e2 : j < k
    · rw [if_neg (by omega), if_pos e2]; exact hg j (by omega)
    · rw [if_pos (by omega), if_neg e2, if_neg e1, show k + (j - (k + 1)) = j - 1 by omega]; exact hg _ (by omega)

set_option maxHeartbeats 4000000 in
theorem ct_J2_add_3 {G : jd_G} {h : jd_H} {i : jd_Id} {a : Nat} {mc : Int32} {n : Nat} {f : Nat → Nat} (ho : h i = some (a, .inr (mc, n, f))) (hn : n ≤ 600) {x k : Nat} {Cn : String} (hk : k ≤ n) (qc : Cond.castable Cn "java/lang/Object" ∈ lw_tbl) (hel : ∀ k, k < n → jd_Ob G h Cn (f k)) (hx : jd_Ob G h Cn x) : jd_Ct G mJ2_add_3 10 1 (n + n / 2 + 10) [.ref a, .int (nI k), .ref x] h (jd_vd (jd_up h i (a, .inr (mc + 1, n + 1, fun j => if j < k then f j else if j = k then x else f (j - 1))))) jd_no := by
  refine jd_ct (ls := [some (.ref (a)), some (.int (nI k)), some (.ref (x)), none, none]) rfl rfl (by decide) (Nat.le_of_ble_eq_true rfl) rfl ?_
  refine jd_aload_n dJ2_add_3_0 rfl ?_
  refine jd_iload_n dJ2_add_3_1 rfl ?_
  refine jd_callV (As := [.int (nI k)]) (rest := []) (ct_J2_rangeCheckForAdd ho (by omega) hk) (jd_rv ho 15 rfl rfl) rfl q1725 q1727 qs55 q83 q1728 nJ2_rangeCheckForAdd dJ2_add_3_2 rfl rfl rfl (Nat.le_of_ble_eq_true rfl) ⟨(Nat.le_of_ble_eq_true rfl), (Nat.le_of_ble_eq_true rfl), by omega, by omega⟩ (fun rv0 hn0 hq0 => ?_) jd_nox
  obtain ⟨e0, f0⟩ := hq0
  subst e0
  rw [f0]
  refine jd_opn ho (fun e0 => ?_) (fun b cap g hb1 hb2 hb0 hg hfr => ?_)
  · simp only at e0
    subst e0
    have hk0 : k = 0 := by omega
    refine jd_free0 (fun hE => ?_)
    have hoi := jd_up_s (h := h) (i := i) (x := (a, jd_lo mc (jd_k G 0) 0))
    have hkp : jd_kp h (jd_up h i (a, jd_lo mc (jd_k G 0) 0)) := jd_kp.up (e' := jd_lo mc (jd_k G 0) 0) ho (fun _ h => h)
    have hold : ∀ j y, j ≠ i → h j = some y → (jd_up h i (a, jd_lo mc (jd_k G 0) 0)) j = some y := fun j y hj e => (jd_up_n hj).trans e
    refine jd_aload_n dJ2_add_3_5 rfl ?_
    refine jd_dup dJ2_add_3_6 rfl ?_
    refine jd_getS in_J2 hoi 0 q153 q152 dJ2_add_3_7 rfl (Nat.le_of_ble_eq_true rfl) rfl ?_
    refine jd_iconst (v := 1) dJ2_add_3_10 (by decide) ?_
    refine jd_iadd dJ2_add_3_11 ?_
    refine jd_putS (fs' := [_, _, _]) in_J2 tyJ2_ok nmJ2 hoi 0 q153 q152 dJ2_add_3_12 rfl (Nat.le_of_ble_eq_true rfl) rfl rfl rfl (Nat.le_of_ble_eq_true rfl) rfl ?_
    refine jd_updG (fun h2 hs2 ho2 => ?_)
    have kp2 := jd_kp.trans hkp (jd_kp.of hoi hs2 ho2 (fun _ h => h))
    have od2 : ∀ j y, j ≠ i → h j = some y → h2 j = some y := fun j y hj e => (ho2 j hj).trans (hold j y hj e)
    refine jd_aload_n dJ2_add_3_15 rfl ?_
    refine jd_get in_J2 hs2 2 q149 dJ2_add_3_16 rfl (Nat.le_of_ble_eq_true rfl) rfl ?_
    refine jd_dup dJ2_add_3_19 rfl ?_
    refine jd_istore_n (ls' := [_, _, _, _, _]) dJ2_add_3_20 (Nat.le_of_ble_eq_true rfl) rfl rfl ?_
    refine jd_aload_n dJ2_add_3_21 rfl ?_
    refine jd_get in_J2 hs2 1 q146 dJ2_add_3_22 rfl (Nat.le_of_ble_eq_true rfl) rfl ?_
    refine jd_dup dJ2_add_3_25 rfl ?_
    refine jd_astore (ls' := [_, _, _, _, _]) dJ2_add_3_26 (Nat.le_of_ble_eq_true rfl) rfl rfl ?_
    refine jd_alen0 dJ2_add_3_28 ?_
    refine jd_ncmp_ne (a := 0) (b := 0) (tgt := 38) dJ2_add_3_29 (by decide) (by omega) (by omega) (fun z3 => ?_) (fun z4 => ?_)
    · omega
    · refine jd_aload_n dJ2_add_3_32 rfl ?_
      refine jd_callV (As := []) (rest := []) (ct_J2_growE hs2) (jd_rv hs2 15 rfl rfl) rfl q217 q219 qs1 q83 q220 nJ2_grow dJ2_add_3_33 rfl rfl rfl (Nat.le_of_ble_eq_true rfl) ⟨(Nat.le_of_ble_eq_true rfl), (Nat.le_of_ble_eq_true rfl), by omega, by omega⟩ (fun rv4 hn4 hq4 => ?_) jd_nox
      obtain ⟨q, hq, rfl, rfl⟩ := hq4
      have hiq : i ≠ (0, q) := jd_nes hs2 hq
      have hfq : h (0, q) = none := by
        cases e2 : h (0, q) with
        | none => rfl
        | some y => rw [od2 _ y (Ne.symm hiq) e2] at hq; cases hq
      have hoq := (jd_up_n (h := jd_up h2 (0, q) (q, jd_la G 10 (fun _ => none))) (x := (a, jd_lo (mc + 1) q 0)) (Ne.symm hiq)).trans jd_up_s
      have hi3 := jd_up_s (h := jd_up h2 (0, q) (q, jd_la G 10 (fun _ => none))) (i := i) (x := (a, jd_lo (mc + 1) q 0))
      have hkp3 := jd_kp.trans kp2 ((jd_kp.fresh (x := (q, jd_la G 10 (fun _ => none))) hq).trans (jd_kp.up (e' := jd_lo (mc + 1) q 0) ((jd_up_n hiq).trans hs2) (fun _ h => h)))
      have hold3 : ∀ j y, j ≠ i → h j = some y → (jd_up (jd_up h2 (0, q) (q, jd_la G 10 (fun _ => none))) i (a, jd_lo (mc + 1) q 0)) j = some y := fun j y hj e => by rw [jd_up_n hj, jd_up_n (fun z => by rw [z, hfq] at e; cases e)]; exact od2 j y hj e
      have hg3 : ∀ j, j < 0 → (fun _ => none) j = some (f j) := (fun j hj => absurd hj (Nat.not_lt_zero j))
      generalize jd_up (jd_up h2 (0, q) (q, jd_la G 10 (fun _ => none))) i (a, jd_lo (mc + 1) q 0) = h9 at hoq hi3 hkp3 hold3 ⊢
      refine jd_astore (ls' := [_, _, _, _, _]) dJ2_add_3_36 (Nat.le_of_ble_eq_true rfl) rfl rfl ?_
      refine jd_aload dJ2_add_3_38 rfl ?_
      refine jd_iload_n dJ2_add_3_40 rfl ?_
      refine jd_aload dJ2_add_3_41 rfl ?_
      refine jd_iload_n dJ2_add_3_43 rfl ?_
      refine jd_iconst (v := 1) dJ2_add_3_44 (by decide) ?_
      refine jd_iaddN (a := k) (b := 1) dJ2_add_3_45 ?_
      refine jd_iload_n dJ2_add_3_46 rfl ?_
      refine jd_iload_n dJ2_add_3_47 rfl ?_
      refine jd_isubN (a := 0) (b := k) dJ2_add_3_48 (by omega) ?_
      refine jd_acopy (n := 0 - k) (sp := k) (dp := k + 1) q1014 q280 q279 q89 dJ2_add_3_49 hoq hoq (t0 := 3) (t1 := 3) rfl rfl qc (by omega) (by omega) ⟨by omega, by omega, by omega⟩ (fun j hj y hy => absurd hj (by omega)) (Nat.le_of_ble_eq_true rfl) (Nat.le_of_ble_eq_true rfl) ?_
      refine jd_updG (fun h6 hs6 ho6 => ?_)
      have hf6_0 := (ho6 _ hiq).trans hi3
      have kp6 := jd_kp.trans hkp3 (jd_kp.of hoq hs6 ho6 (fun _ h => h))
      have od6 : ∀ j y, j ≠ i → h j = some y → h6 j = some y := fun j y hj e => (ho6 j (fun z => by rw [z, hfq] at e; cases e)).trans (hold3 j y hj e)
      refine jd_aload dJ2_add_3_52 rfl ?_
      refine jd_iload_n dJ2_add_3_54 rfl ?_
      refine jd_aload_n dJ2_add_3_55 rfl ?_
      refine jd_aast hs6 (hx.kp kp6).rv dJ2_add_3_56 3 rfl qc (vp_in_nI (by omega) (by omega)) ?_
      refine jd_updG (fun h7 hs7 ho7 => ?_)
      have hf7_0 := (ho7 _ hiq).trans hf6_0
      have kp7 := jd_kp.trans kp6 (jd_kp.of hs6 hs7 ho7 (fun _ h => h))
      have od7 : ∀ j y, j ≠ i → h j = some y → h7 j = some y := fun j y hj e => (ho7 j (fun z => by rw [z, hfq] at e; cases e)).trans (od6 j y hj e)
      refine jd_aload_n dJ2_add_3_57 rfl ?_
      refine jd_iload_n dJ2_add_3_58 rfl ?_
      refine jd_iconst (v := 1) dJ2_add_3_59 (by decide) ?_
      refine jd_iaddN (a := 0) (b := 1) dJ2_add_3_60 ?_
      refine jd_put (fs' := [_, _, _]) in_J2 tyJ2_ok nmJ2 hf7_0 2 q149 dJ2_add_3_61 rfl (Nat.le_of_ble_eq_true rfl) rfl rfl rfl (Nat.le_of_ble_eq_true rfl) rfl ?_
      refine jd_updG (fun h8 hs8 ho8 => ?_)
      have hf8_1 := (ho8 _ (Ne.symm hiq)).trans hs7
      have kp8 := jd_kp.trans kp7 (jd_kp.of hf7_0 hs8 ho8 (fun _ h => h))
      have od8 : ∀ j y, j ≠ i → h j = some y → h8 j = some y := fun j y hj e => (ho8 j hj).trans (od7 j y hj e)
      refine jd_cls (f := fun j => if j < k then f j else if j = k then x else f (j - 1)) hs8 hf8_1 (by omega) (by omega) (by omega) (jd_a3g (by omega) (by omega) hg3) ?_
      refine jd_drop (h' := jd_up h i (a, .inr (mc + 1, 0 + 1, fun j => if j < k then f j else if j = k then x else f (j - 1)))) (fun j y hj => ?_) ?_
      · by_cases e1 : j = i
        · subst e1; rw [jd_up_s] at hj ⊢; exact hj
        · rw [jd_up_n e1] at hj ⊢
          have e2 : j ≠ (0, q) := fun z => by rw [z, hfq] at hj; cases hj
          rw [jd_rm_n e2]; exact od8 j y e1 hj
      exact jd_vret dJ2_add_3_64 rfl ⟨rfl, rfl⟩
  · simp only at hb1 hg
    have hib := jd_nes ho hfr
    by_cases hnc : n < cap
    · have hoi : (jd_up (jd_up h i (a, jd_lo mc b n)) (0, b) (b, jd_la G cap g)) i = some (a, jd_lo mc b n) := (jd_up_n hib).trans jd_up_s
      have hob := jd_up_s (h := jd_up h i (a, jd_lo mc b n)) (i := (0, b)) (x := (b, jd_la G cap g))
      have hkp : jd_kp h (jd_up (jd_up h i (a, jd_lo mc b n)) (0, b) (b, jd_la G cap g)) := (jd_kp.up (e' := jd_lo mc b n) ho (fun _ h => h)).trans (jd_kp.fresh ((jd_up_n (Ne.symm hib)).trans hfr))
      have hold : ∀ j y, j ≠ i → h j = some y → (jd_up (jd_up h i (a, jd_lo mc b n)) (0, b) (b, jd_la G cap g)) j = some y := fun j y hj e => by rw [jd_up_n (fun z => by rw [z, hfr] at e; cases e), jd_up_n hj]; exact e
      refine jd_aload_n dJ2_add_3_5 rfl ?_
      refine jd_dup dJ2_add_3_6 rfl ?_
      refine jd_getS in_J2 hoi 0 q153 q152 dJ2_add_3_7 rfl (Nat.le_of_ble_eq_true rfl) rfl ?_
      refine jd_iconst (v := 1) dJ2_add_3_10 (by decide) ?_
      refine jd_iadd dJ2_add_3_11 ?_
      refine jd_putS (fs' := [_, _, _]) in_J2 tyJ2_ok nmJ2 hoi 0 q153 q152 dJ2_add_3_12 rfl (Nat.le_of_ble_eq_true rfl) rfl rfl rfl (Nat.le_of_ble_eq_true rfl) rfl ?_
      refine jd_updG (fun h9 hs9 ho9 => ?_)
      have hf9_1 := (ho9 _ (Ne.symm hib)).trans hob
      have kp9 := jd_kp.trans hkp (jd_kp.of hoi hs9 ho9 (fun _ h => h))
      have od9 : ∀ j y, j ≠ i → h j = some y → h9 j = some y := fun j y hj e => (ho9 j hj).trans (hold j y hj e)
      refine jd_aload_n dJ2_add_3_15 rfl ?_
      refine jd_get in_J2 hs9 2 q149 dJ2_add_3_16 rfl (Nat.le_of_ble_eq_true rfl) rfl ?_
      refine jd_dup dJ2_add_3_19 rfl ?_
      refine jd_istore_n (ls' := [_, _, _, _, _]) dJ2_add_3_20 (Nat.le_of_ble_eq_true rfl) rfl rfl ?_
      refine jd_aload_n dJ2_add_3_21 rfl ?_
      refine jd_get in_J2 hs9 1 q146 dJ2_add_3_22 rfl (Nat.le_of_ble_eq_true rfl) rfl ?_
      refine jd_dup dJ2_add_3_25 rfl ?_
      refine jd_astore (ls' := [_, _, _, _, _]) dJ2_add_3_26 (Nat.le_of_ble_eq_true rfl) rfl rfl ?_
      refine jd_alen hf9_1 dJ2_add_3_28 3 rfl ?_
      refine jd_ncmp_ne (a := n) (b := cap) (tgt := 38) dJ2_add_3_29 (by decide) (by omega) (by omega) (fun z10 => ?_) (fun z11 => ?_)
      · refine jd_aload dJ2_add_3_38 rfl ?_
        refine jd_iload_n dJ2_add_3_40 rfl ?_
        refine jd_aload dJ2_add_3_41 rfl ?_
        refine jd_iload_n dJ2_add_3_43 rfl ?_
        refine jd_iconst (v := 1) dJ2_add_3_44 (by decide) ?_
        refine jd_iaddN (a := k) (b := 1) dJ2_add_3_45 ?_
        refine jd_iload_n dJ2_add_3_46 rfl ?_
        refine jd_iload_n dJ2_add_3_47 rfl ?_
        refine jd_isubN (a := n) (b := k) dJ2_add_3_48 (by omega) ?_
        refine jd_acopy (n := n - k) (sp := k) (dp := k + 1) q1014 q280 q279 q89 dJ2_add_3_49 hf9_1 hf9_1 (t0 := 3) (t1 := 3) rfl rfl qc (by omega) (by omega) ⟨by omega, by omega, by omega⟩ (fun j hj y hy => by rw [hg _ (by omega)] at hy; cases hy; exact ((hel _ (by omega)).kp kp9).rv) (Nat.le_of_ble_eq_true rfl) (Nat.le_of_ble_eq_true rfl) ?_
        refine jd_updG (fun h12 hs12 ho12 => ?_)
        have hf12_0 := (ho12 _ hib).trans hs9
        have kp12 := jd_kp.trans kp9 (jd_kp.of hf9_1 hs12 ho12 (fun _ h => h))
        have od12 : ∀ j y, j ≠ i → h j = some y → h12 j = some y := fun j y hj e => (ho12 j (fun z => by rw [z, hfr] at e; cases e)).trans (od9 j y hj e)
        refine jd_aload dJ2_add_3_52 rfl ?_
        refine jd_iload_n dJ2_add_3_54 rfl ?_
        refine jd_aload_n dJ2_add_3_55 rfl ?_
        refine jd_aast hs12 (hx.kp kp12).rv dJ2_add_3_56 3 rfl qc (vp_in_nI (by omega) (by omega)) ?_
        refine jd_updG (fun h13 hs13 ho13 => ?_)
        have hf13_0 := (ho13 _ hib).trans hf12_0
        have kp13 := jd_kp.trans kp12 (jd_kp.of hs12 hs13 ho13 (fun _ h => h))
        have od13 : ∀ j y, j ≠ i → h j = some y → h13 j = some y := fun j y hj e => (ho13 j (fun z => by rw [z, hfr] at e; cases e)).trans (od12 j y hj e)
        refine jd_aload_n dJ2_add_3_57 rfl ?_
        refine jd_iload_n dJ2_add_3_58 rfl ?_
        refine jd_iconst (v := 1) dJ2_add_3_59 (by decide) ?_
        refine jd_iaddN (a := n) (b := 1) dJ2_add_3_60 ?_
        refine jd_put (fs' := [_, _, _]) in_J2 tyJ2_ok nmJ2 hf13_0 2 q149 dJ2_add_3_61 rfl (Nat.le_of_ble_eq_true rfl) rfl rfl rfl (Nat.le_of_ble_eq_true rfl) rfl ?_
        refine jd_updG (fun h14 hs14 ho14 => ?_)
        have hf14_1 := (ho14 _ (Ne.symm hib)).trans hs13
        have kp14 := jd_kp.trans kp13 (jd_kp.of hf13_0 hs14 ho14 (fun _ h => h))
        have od14 : ∀ j y, j ≠ i → h j = some y → h14 j = some y := fun j y hj e => (ho14 j hj).trans (od13 j y hj e)
        refine jd_cls (f := fun j => if j < k then f j else if j = k then x else f (j - 1)) hs14 hf14_1 (by omega) (by omega) (by omega) (jd_a3g (by omega) (by omega) hg) ?_
        refine jd_drop (h' := jd_up h i (a, .inr (mc + 1, n + 1, fun j => if j < k then f j else if j = k then x else f (j - 1)))) (fun j y hj => ?_) ?_
        · by_cases e1 : j = i
          · subst e1; rw [jd_up_s] at hj ⊢; exact hj
          · rw [jd_up_n e1] at hj ⊢
            have e2 : j ≠ (0, b) := fun z => by rw [z, hfr] at hj; cases hj
            rw [jd_rm_n e2]; exact od14 j y e1 hj
        exact jd_vret dJ2_add_3_64 rfl ⟨rfl, rfl⟩
      · omega
    · have hnc : n = cap := by omega
      subst hnc
      have hoi : (jd_up (jd_up h i (a, jd_lo mc b n)) (0, b) (b, jd_la G n g)) i = some (a, jd_lo mc b n) := (jd_up_n hib).trans jd_up_s
      have hob := jd_up_s (h := jd_up h i (a, jd_lo mc b n)) (i := (0, b)) (x := (b, jd_la G n g))
      have hkp : jd_kp h (jd_up (jd_up h i (a, jd_lo mc b n)) (0, b) (b, jd_la G n g)) := (jd_kp.up (e' := jd_lo mc b n) ho (fun _ h => h)).trans (jd_kp.fresh ((jd_up_n (Ne.symm hib)).trans hfr))
      have hold : ∀ j y, j ≠ i → h j = some y → (jd_up (jd_up h i (a, jd_lo mc b n)) (0, b) (b, jd_la G n g)) j = some y := fun j y hj e => by rw [jd_up_n (fun z => by rw [z, hfr] at e; cases e), jd_up_n hj]; exact e
      refine jd_aload_n dJ2_add_3_5 rfl ?_
      refine jd_dup dJ2_add_3_6 rfl ?_
      refine jd_getS in_J2 hoi 0 q153 q152 dJ2_add_3_7 rfl (Nat.le_of_ble_eq_true rfl) rfl ?_
      refine jd_iconst (v := 1) dJ2_add_3_10 (by decide) ?_
      refine jd_iadd dJ2_add_3_11 ?_
      refine jd_putS (fs' := [_, _, _]) in_J2 tyJ2_ok nmJ2 hoi 0 q153 q152 dJ2_add_3_12 rfl (Nat.le_of_ble_eq_true rfl) rfl rfl rfl (Nat.le_of_ble_eq_true rfl) rfl ?_
      refine jd_updG (fun h15 hs15 ho15 => ?_)
      have hf15_1 := (ho15 _ (Ne.symm hib)).trans hob
      have kp15 := jd_kp.trans hkp (jd_kp.of hoi hs15 ho15 (fun _ h => h))
      have od15 : ∀ j y, j ≠ i → h j = some y → h15 j = some y := fun j y hj e => (ho15 j hj).trans (hold j y hj e)
      refine jd_aload_n dJ2_add_3_15 rfl ?_
      refine jd_get in_J2 hs15 2 q149 dJ2_add_3_16 rfl (Nat.le_of_ble_eq_true rfl) rfl ?_
      refine jd_dup dJ2_add_3_19 rfl ?_
      refine jd_istore_n (ls' := [_, _, _, _, _]) dJ2_add_3_20 (Nat.le_of_ble_eq_true rfl) rfl rfl ?_
      refine jd_aload_n dJ2_add_3_21 rfl ?_
      refine jd_get in_J2 hs15 1 q146 dJ2_add_3_22 rfl (Nat.le_of_ble_eq_true rfl) rfl ?_
      refine jd_dup dJ2_add_3_25 rfl ?_
      refine jd_astore (ls' := [_, _, _, _, _]) dJ2_add_3_26 (Nat.le_of_ble_eq_true rfl) rfl rfl ?_
      refine jd_alen hf15_1 dJ2_add_3_28 3 rfl ?_
      refine jd_ncmp_ne (a := n) (b := n) (tgt := 38) dJ2_add_3_29 (by decide) (by omega) (by omega) (fun z16 => ?_) (fun z17 => ?_)
      · omega
      · refine jd_aload_n dJ2_add_3_32 rfl ?_
        refine jd_callV (As := []) (rest := []) (ct_J2_growA hs15 hf15_1 (by omega) hn qc (fun j hj y hy => by rw [hg j hj] at hy; cases hy; exact (hel j hj).kp kp15)) (jd_rv hs15 15 rfl rfl) rfl q217 q219 qs1 q83 q220 nJ2_grow dJ2_add_3_33 rfl rfl rfl (Nat.le_of_ble_eq_true rfl) ⟨(Nat.le_of_ble_eq_true rfl), (Nat.le_of_ble_eq_true rfl), by omega, by omega⟩ (fun rv17 hn17 hq17 => ?_) jd_nox
        obtain ⟨q, hq, rfl, rfl⟩ := hq17
        have hiq : i ≠ (0, q) := jd_nes hs15 hq
        have hfq : h (0, q) = none := by
          cases e2 : h (0, q) with
          | none => rfl
          | some y => rw [od15 _ y (Ne.symm hiq) e2] at hq; cases hq
        have hoq := (jd_up_n (h := jd_up h15 (0, q) (q, jd_la G (n + max (n + 1 - n) (n / 2)) (va_cpy g (fun _ => none) 0 0 n))) (x := (a, jd_lo (mc + 1) q n)) (Ne.symm hiq)).trans jd_up_s
        have hi3 := jd_up_s (h := jd_up h15 (0, q) (q, jd_la G (n + max (n + 1 - n) (n / 2)) (va_cpy g (fun _ => none) 0 0 n))) (i := i) (x := (a, jd_lo (mc + 1) q n))
        have hkp3 := jd_kp.trans kp15 ((jd_kp.fresh (x := (q, jd_la G (n + max (n + 1 - n) (n / 2)) (va_cpy g (fun _ => none) 0 0 n))) hq).trans (jd_kp.up (e' := jd_lo (mc + 1) q n) ((jd_up_n hiq).trans hs15) (fun _ h => h)))
        have hold3 : ∀ j y, j ≠ i → h j = some y → (jd_up (jd_up h15 (0, q) (q, jd_la G (n + max (n + 1 - n) (n / 2)) (va_cpy g (fun _ => none) 0 0 n))) i (a, jd_lo (mc + 1) q n)) j = some y := fun j y hj e => by rw [jd_up_n hj, jd_up_n (fun z => by rw [z, hfq] at e; cases e)]; exact od15 j y hj e
        have hg3 : ∀ j, j < n → (va_cpy g (fun _ => none) 0 0 n) j = some (f j) := (fun j hj => by unfold va_cpy; rw [if_pos (by omega)]; simpa using hg j hj)
        generalize jd_up (jd_up h15 (0, q) (q, jd_la G (n + max (n + 1 - n) (n / 2)) (va_cpy g (fun _ => none) 0 0 n))) i (a, jd_lo (mc + 1) q n) = h9 at hoq hi3 hkp3 hold3 ⊢
        refine jd_astore (ls' := [_, _, _, _, _]) dJ2_add_3_36 (Nat.le_of_ble_eq_true rfl) rfl rfl ?_
        refine jd_aload dJ2_add_3_38 rfl ?_
        refine jd_iload_n dJ2_add_3_40 rfl ?_
        refine jd_aload dJ2_add_3_41 rfl ?_
        refine jd_iload_n dJ2_add_3_43 rfl ?_
        refine jd_iconst (v := 1) dJ2_add_3_44 (by decide) ?_
        refine jd_iaddN (a := k) (b := 1) dJ2_add_3_45 ?_
        refine jd_iload_n dJ2_add_3_46 rfl ?_
        refine jd_iload_n dJ2_add_3_47 rfl ?_
        refine jd_isubN (a := n) (b := k) dJ2_add_3_48 (by omega) ?_
        refine jd_acopy (n := n - k) (sp := k) (dp := k + 1) q1014 q280 q279 q89 dJ2_add_3_49 hoq hoq (t0 := 3) (t1 := 3) rfl rfl qc (by omega) (by omega) ⟨by omega, by omega, by omega⟩ (fun j hj y hy => by rw [hg3 _ (by omega)] at hy; cases hy; exact ((hel _ (by omega)).kp hkp3).rv) (Nat.le_of_ble_eq_true rfl) (Nat.le_of_ble_eq_true rfl) ?_
        refine jd_updG (fun h19 hs19 ho19 => ?_)
        have hf19_0 := (ho19 _ hiq).trans hi3
        have kp19 := jd_kp.trans hkp3 (jd_kp.of hoq hs19 ho19 (fun _ h => h))
        have od19 : ∀ j y, j ≠ i → h j = some y → h19 j = some y := fun j y hj e => (ho19 j (fun z => by rw [z, hfq] at e; cases e)).trans (hold3 j y hj e)
        refine jd_aload dJ2_add_3_52 rfl ?_
        refine jd_iload_n dJ2_add_3_54 rfl ?_
        refine jd_aload_n dJ2_add_3_55 rfl ?_
        refine jd_aast hs19 (hx.kp kp19).rv dJ2_add_3_56 3 rfl qc (vp_in_nI (by omega) (by omega)) ?_
        refine jd_updG (fun h20 hs20 ho20 => ?_)
        have hf20_0 := (ho20 _ hiq).trans hf19_0
        have kp20 := jd_kp.trans kp19 (jd_kp.of hs19 hs20 ho20 (fun _ h => h))
        have od20 : ∀ j y, j ≠ i → h j = some y → h20 j = some y := fun j y hj e => (ho20 j (fun z => by rw [z, hfq] at e; cases e)).trans (od19 j y hj e)
        refine jd_aload_n dJ2_add_3_57 rfl ?_
        refine jd_iload_n dJ2_add_3_58 rfl ?_
        refine jd_iconst (v := 1) dJ2_add_3_59 (by decide) ?_
        refine jd_iaddN (a := n) (b := 1) dJ2_add_3_60 ?_
        refine jd_put (fs' := [_, _, _]) in_J2 tyJ2_ok nmJ2 hf20_0 2 q149 dJ2_add_3_61 rfl (Nat.le_of_ble_eq_true rfl) rfl rfl rfl (Nat.le_of_ble_eq_true rfl) rfl ?_
        refine jd_updG (fun h21 hs21 ho21 => ?_)
        have hf21_1 := (ho21 _ (Ne.symm hiq)).trans hs20
        have kp21 := jd_kp.trans kp20 (jd_kp.of hf20_0 hs21 ho21 (fun _ h => h))
        have od21 : ∀ j y, j ≠ i → h j = some y → h21 j = some y := fun j y hj e => (ho21 j hj).trans (od20 j y hj e)
        refine jd_cls (f := fun j => if j < k then f j else if j = k then x else f (j - 1)) hs21 hf21_1 (by omega) (by omega) (by omega) (jd_a3g (by omega) (by omega) hg3) ?_
        refine jd_drop (h' := jd_up h i (a, .inr (mc + 1, n + 1, fun j => if j < k then f j else if j = k then x else f (j - 1)))) (fun j y hj => ?_) ?_
        · by_cases e1 : j = i
          · subst e1; rw [jd_up_s] at hj ⊢; exact hj
          · rw [jd_up_n e1] at hj ⊢
            have e2 : j ≠ (0, q) := fun z => by rw [z, hfq] at hj; cases hj
            rw [jd_rm_n e2]; exact od21 j y e1 hj
        exact jd_vret dJ2_add_3_64 rfl ⟨rfl, rfl⟩
