/-! the component: new gates, the start (printed by mk_c.py) -/
set_option maxRecDepth 20000 in
set_option maxHeartbeats 2000000 in
theorem ct_X7_init {G : jd_G} {h : jd_H} {a : Nat} (ho : h (0, a) = some (a, .inl (.inr (3, [.int (0), .int (0), .int (0), .int (0), .int (0), .int (0), .null, .null])))) (o1 o2 fr hr : Int32) : jd_Ct G mX7_init 4 (2) (100) [.ref (a), .int (o1), .int (o2), .int (fr), .int (hr)] h (fun (v : Option Value) (h2 : jd_H) => v = none ∧ ∃ qa ql : Nat, a ≠ qa ∧ a ≠ ql ∧ qa ≠ ql ∧ h (0, qa) = none ∧ h (0, ql) = none ∧ h2 (0, a) = some (a, .inl (.inr (3, [.int (o1), .int (o2), .int (fr), .int (hr), .int (5), .int (0), .ref (qa), .ref (ql)]))) ∧ h2 (0, qa) = some (qa, .inl (.inl (G.2.1 1, 97, .inl (fun _ => 0)))) ∧ h2 (0, ql) = some (ql, .inr (0, 0, fun _ => 0)) ∧ ∀ j : jd_Id, j ≠ (0, a) → j ≠ (0, qa) → j ≠ (0, ql) → h2 j = h j) jd_no := by
  refine jd_ct (ls := [some (.ref (a)), some (.int (o1)), some (.int (o2)), some (.int (fr)), some (.int (hr))]) rfl rfl (by decide) (Nat.le_of_ble_eq_true rfl) rfl ?_
  refine jd_aload_n dX7_init_0 rfl ?_
  refine jd_oinit q776 q130 q131 dX7_init_1 (Nat.le_of_ble_eq_true rfl) ?_ (Nat.le_of_ble_eq_true rfl)
  refine jd_aload_n dX7_init_4 rfl ?_
  refine jd_iconst (v := 5) dX7_init_5 (by decide) ?_
  refine jd_put (fs' := [_, _, _, _, _, _, _, _]) in_X7 tyX7_ok nmX7 ho 4 q785 dX7_init_6 rfl (Nat.le_of_ble_eq_true rfl) rfl rfl rfl (Nat.le_of_ble_eq_true rfl) rfl ?_
  refine jd_updG (fun h1 hs1 ho1 => ?_)
  refine jd_aload_n dX7_init_9 rfl ?_
  refine jd_bipush (v := 97) dX7_init_10 (by decide) ?_
  refine jd_newa (atype := .boolean) (ty := .boolean) (N' := 97) rfl q810 dX7_init_12 1 rfl (by decide) rfl (nI_pos (n := 97) (by omega)) (nI_clamp (n := 97) (by omega)) (by show _ * 1 ≤ _; omega) (by omega) (by omega) (fun qa hqa => ?_)
  have ne_a_qa : ((0, a) : jd_Id) ≠ (0, qa) := fun z => by have := hs1; rw [z, hqa] at this; cases this
  have h0qa : h (0, qa) = none := ((ho1 _ (Ne.symm ne_a_qa))).symm.trans hqa
  refine jd_updG (fun h2 hs2 ho2 => ?_)
  have hf2_a := (ho2 _ ne_a_qa).trans hs1
  refine jd_put (fs' := [_, _, _, _, _, _, _, _]) in_X7 tyX7_ok nmX7 hf2_a 6 q789 dX7_init_14 rfl (Nat.le_of_ble_eq_true rfl) rfl rfl rfl (Nat.le_of_ble_eq_true rfl) rfl ?_
  refine jd_updG (fun h3 hs3 ho3 => ?_)
  have hf3_qa := (ho3 _ (Ne.symm ne_a_qa)).trans hs2
  refine jd_aload_n dX7_init_17 rfl ?_
  refine jd_new (fs := [.int (0), .null, .int (0)]) in_J2 tyJ2_ok q777 q133 q83 dX7_init_18 15 rfl rfl (by omega) (by omega) (fun ql hql => ?_)
  have ne_qa_ql : ((0, qa) : jd_Id) ≠ (0, ql) := fun z => by have := hf3_qa; rw [z, hql] at this; cases this
  have ne_a_ql : ((0, a) : jd_Id) ≠ (0, ql) := fun z => by have := hs3; rw [z, hql] at this; cases this
  have h0ql : h (0, ql) = none := (((ho3 _ (Ne.symm ne_a_ql)).trans ((ho2 _ (Ne.symm ne_qa_ql)).trans (ho1 _ (Ne.symm ne_a_ql))))).symm.trans hql
  refine jd_updG (fun h4 hs4 ho4 => ?_)
  have hf4_qa := (ho4 _ ne_qa_ql).trans hf3_qa
  have hf4_a := (ho4 _ ne_a_ql).trans hs3
  refine jd_dup dX7_init_21 rfl ?_
  refine jd_callI (As := []) (rest := [.ref (ql), .ref (a)]) (ct_J2_init hs4) rfl rfl q778 q135 q83 q136 nJ2_init dX7_init_22 rfl rfl (Nat.le_of_ble_eq_true rfl) ⟨(Nat.le_of_ble_eq_true rfl), (Nat.le_of_ble_eq_true rfl), by omega, by omega⟩ (fun rv4 hn4 hq4 => ?_) jd_nox
  obtain ⟨rfl, he4⟩ := hq4
  rw [he4]
  refine jd_updG (fun h6 hs6 ho6 => ?_)
  have hf6_qa := (ho6 _ ne_qa_ql).trans hf4_qa
  have hf6_a := (ho6 _ ne_a_ql).trans hf4_a
  refine jd_putF (fs' := [_, _, _, _, _, _, _, _]) in_X7 tyX7_ok nmX7 hf6_a 7 q791 dX7_init_25 rfl (Nat.le_of_ble_eq_true rfl) rfl rfl rfl rfl rfl (Nat.le_of_ble_eq_true rfl) rfl ?_
  refine jd_updG (fun h7 hs7 ho7 => ?_)
  have hf7_qa := (ho7 _ (Ne.symm ne_a_qa)).trans hf6_qa
  have hf7_ql := (ho7 _ (Ne.symm ne_a_ql)).trans hs6
  refine jd_aload_n dX7_init_28 rfl ?_
  refine jd_iload_n dX7_init_29 rfl ?_
  refine jd_putF (fs' := [_, _, _, _, _, _, _, _]) in_X7 tyX7_ok nmX7 hs7 0 q779 dX7_init_30 rfl (Nat.le_of_ble_eq_true rfl) rfl rfl rfl rfl rfl (Nat.le_of_ble_eq_true rfl) rfl ?_
  refine jd_updG (fun h8 hs8 ho8 => ?_)
  have hf8_qa := (ho8 _ (Ne.symm ne_a_qa)).trans hf7_qa
  have hf8_ql := (ho8 _ (Ne.symm ne_a_ql)).trans hf7_ql
  refine jd_aload_n dX7_init_33 rfl ?_
  refine jd_iload_n dX7_init_34 rfl ?_
  refine jd_putF (fs' := [_, _, _, _, _, _, _, _]) in_X7 tyX7_ok nmX7 hs8 1 q781 dX7_init_35 rfl (Nat.le_of_ble_eq_true rfl) rfl rfl rfl rfl rfl (Nat.le_of_ble_eq_true rfl) rfl ?_
  refine jd_updG (fun h9 hs9 ho9 => ?_)
  have hf9_qa := (ho9 _ (Ne.symm ne_a_qa)).trans hf8_qa
  have hf9_ql := (ho9 _ (Ne.symm ne_a_ql)).trans hf8_ql
  refine jd_aload_n dX7_init_38 rfl ?_
  refine jd_iload_n dX7_init_39 rfl ?_
  refine jd_putF (fs' := [_, _, _, _, _, _, _, _]) in_X7 tyX7_ok nmX7 hs9 2 q783 dX7_init_40 rfl (Nat.le_of_ble_eq_true rfl) rfl rfl rfl rfl rfl (Nat.le_of_ble_eq_true rfl) rfl ?_
  refine jd_updG (fun h10 hs10 ho10 => ?_)
  have hf10_qa := (ho10 _ (Ne.symm ne_a_qa)).trans hf9_qa
  have hf10_ql := (ho10 _ (Ne.symm ne_a_ql)).trans hf9_ql
  refine jd_aload_n dX7_init_43 rfl ?_
  refine jd_iload dX7_init_44 rfl ?_
  refine jd_putF (fs' := [_, _, _, _, _, _, _, _]) in_X7 tyX7_ok nmX7 hs10 3 q784 dX7_init_46 rfl (Nat.le_of_ble_eq_true rfl) rfl rfl rfl rfl rfl (Nat.le_of_ble_eq_true rfl) rfl ?_
  refine jd_updG (fun h11 hs11 ho11 => ?_)
  have hf11_qa := (ho11 _ (Ne.symm ne_a_qa)).trans hf10_qa
  have hf11_ql := (ho11 _ (Ne.symm ne_a_ql)).trans hf10_ql
  exact jd_vret dX7_init_49 rfl ⟨rfl, qa, ql, (fun z => ne_a_qa (by rw [z])), (fun z => ne_a_ql (by rw [z])), (fun z => ne_qa_ql (by rw [z])), h0qa, h0ql, hs11, hf11_qa, hf11_ql, fun j n1 n2 n3 => ((ho11 j n1).trans ((ho10 j n1).trans ((ho9 j n1).trans ((ho8 j n1).trans ((ho7 j n1).trans ((ho6 j n3).trans ((ho4 j n3).trans ((ho3 j n1).trans ((ho2 j n2).trans (ho1 j n1))))))))))⟩

set_option maxRecDepth 20000 in
set_option maxHeartbeats 2000000 in
theorem ct_X1_gate {G : jd_G} {β : ll_B} {κ : ll_K} {h : jd_H} (hw : WC G β κ h) (hI : ll_I κ) (o1 : Int32) (o2 : Int32) (fr : Int32) (hr : Int32) : jd_Ct G mX1_gate 12 (12) (240) [.ref (β 0 0), .int (o1), .int (o2), .int (fr), .int (hr)] h (jd_op G β h (c_gate κ o1 o2 fr hr) (.int (nI (nG κ))) (k_addG κ (tN o1) (tN o2) fr hr)) (jd_th h (c_gate κ o1 o2 fr hr) nmA) := by
  obtain ⟨⟨hG8, hS12, hP24, hH40, hN99, hH24⟩, hIg, hIs, hIp, hIh, hIl, hIq⟩ := id hI
  obtain ⟨mcL, hlL⟩ := w_lands hw
  obtain ⟨mcG, hlG⟩ := w_gates hw
  obtain ⟨mcS, hlS⟩ := w_sleepers hw
  obtain ⟨mcP, hlP⟩ := w_parts hw
  obtain ⟨mcH, hlH⟩ := w_hidings hw
  refine jd_ct (ls := [some (.ref (β 0 0)), some (.int (o1)), some (.int (o2)), some (.int (fr)), some (.int (hr))]) rfl rfl (by decide) (Nat.le_of_ble_eq_true rfl) rfl ?_
  refine jd_iload_n dX1_gate_0 rfl ?_
  refine jd_bipush (v := 6) dX1_gate_1 (by decide) ?_
  refine jd_callS (As := [.int (o1), .int (6)]) (rest := []) (ct_X1_checkPlace (o1) (6)) rfl q694 q695 q80 q696 nX1_checkPlace dX1_gate_3 rfl rfl (Nat.le_of_ble_eq_true rfl) ⟨(Nat.le_of_ble_eq_true rfl), (Nat.le_of_ble_eq_true rfl), by omega, by omega⟩ (fun rv0 hn0 hq0 => ?_) (fun E h2 hx => by obtain ⟨h3, h4, h5⟩ := hx; subst h5; have hx : ¬ _ ∧ True := ⟨h3, trivial⟩; exact jd_xout rfl (jd_th.mk (k := 1) (by unfold c_gate; rw [if_neg hx.1]) (by decide) h4))
  obtain ⟨hb0, rfl, he0⟩ := hq0
  rw [he0]
  obtain ⟨k_o1, hk_o1, rfl⟩ := inN_ex (n := 6) (by decide) hb0
  have hT_o1 := tN_nI (show k_o1 < 2 ^ 31 by omega)
  refine jd_iload_n dX1_gate_6 rfl ?_
  refine jd_bipush (v := 6) dX1_gate_7 (by decide) ?_
  refine jd_callS (As := [.int (o2), .int (6)]) (rest := []) (ct_X1_checkPlace (o2) (6)) rfl q694 q695 q80 q696 nX1_checkPlace dX1_gate_9 rfl rfl (Nat.le_of_ble_eq_true rfl) ⟨(Nat.le_of_ble_eq_true rfl), (Nat.le_of_ble_eq_true rfl), by omega, by omega⟩ (fun rv1 hn1 hq1 => ?_) (fun E h2 hx => by obtain ⟨h3, h4, h5⟩ := hx; subst h5; have hx : ¬ _ ∧ True := ⟨h3, trivial⟩; exact jd_xout rfl (jd_th.mk (k := 1) (by unfold c_gate; (try simp only [hT_o1]); rw [if_pos hb0, if_neg hx.1]) (by decide) h4))
  obtain ⟨hb1, rfl, he1⟩ := hq1
  rw [he1]
  obtain ⟨k_o2, hk_o2, rfl⟩ := inN_ex (n := 6) (by decide) hb1
  have hT_o2 := tN_nI (show k_o2 < 2 ^ 31 by omega)
  refine jd_iload_n dX1_gate_12 rfl ?_
  refine jd_iload_n dX1_gate_13 rfl ?_
  refine jd_mg2 22 (.int (jd_b ((¬ (k_o1 = k_o2))))) (fun hj3 => ?_) ?_
  · refine jd_ncmp_eq (a := k_o1) (b := k_o2) (tgt := 21) dX1_gate_14 (by decide) (by omega) (by omega) (fun z4 => ?_) (fun z5 => ?_)
    · refine jd_iconst (v := 0) dX1_gate_21 (by decide) ?_
      exact jd_top (congrArg Value.int (jd_b0 (fun w => w z4)).symm) hj3
    · refine jd_iconst (v := 1) dX1_gate_17 (by decide) ?_
      refine jd_goto (tgt := 22) dX1_gate_18 (by decide) ?_
      exact jd_top (congrArg Value.int (jd_b1 z5).symm) hj3
  · refine jd_callS (As := [.int (jd_b ((¬ (k_o1 = k_o2))))]) (rest := []) (ct_X1_must ((¬ (k_o1 = k_o2)))) rfl q721 q722 q80 q723 nX1_must dX1_gate_22 rfl rfl (Nat.le_of_ble_eq_true rfl) ⟨(Nat.le_of_ble_eq_true rfl), (Nat.le_of_ble_eq_true rfl), by omega, by omega⟩ (fun rv5 hn5 hq5 => ?_) (fun E h2 hx => by obtain ⟨h3, h4, h5⟩ := hx; subst h5; have hx : ¬ _ ∧ True := ⟨h3, trivial⟩; exact jd_xout rfl (jd_th.mk (k := 2) (by unfold c_gate; (try simp only [hT_o1, hT_o2]); rw [if_pos hb0, if_pos hb1, if_neg hx.1]) (by decide) h4))
    obtain ⟨hb5, rfl, he5⟩ := hq5
    rw [he5]
    refine jd_iload_n dX1_gate_25 rfl ?_
    refine jd_iconst (v := 0) dX1_gate_26 (by decide) ?_
    refine jd_bipush (v := 23) dX1_gate_27 (by decide) ?_
    refine jd_callS (As := [.int (fr), .int (0), .int (23)]) (rest := []) (ct_X1_mustBeIn (fr) (0) (23)) rfl q718 q719 q80 q720 nX1_mustBeIn dX1_gate_29 rfl rfl (Nat.le_of_ble_eq_true rfl) ⟨(Nat.le_of_ble_eq_true rfl), (Nat.le_of_ble_eq_true rfl), by omega, by omega⟩ (fun rv6 hn6 hq6 => ?_) (fun E h2 hx => by obtain ⟨h3, h4, h5⟩ := hx; subst h5; have hx : ¬ _ ∧ True := ⟨h3, trivial⟩; exact jd_xout rfl (jd_th.mk (k := 2) (by unfold c_gate; (try simp only [hT_o1, hT_o2]); rw [if_pos hb0, if_pos hb1, if_pos hb5, if_neg hx.1]) (by decide) h4))
    obtain ⟨hb6, rfl, he6⟩ := hq6
    rw [he6]
    refine jd_iload dX1_gate_32 rfl ?_
    refine jd_iconst (v := 1) dX1_gate_34 (by decide) ?_
    refine jd_bipush (v := 24) dX1_gate_35 (by decide) ?_
    refine jd_callS (As := [.int (hr), .int (1), .int (24)]) (rest := []) (ct_X1_mustBeIn (hr) (1) (24)) rfl q718 q719 q80 q720 nX1_mustBeIn dX1_gate_37 rfl rfl (Nat.le_of_ble_eq_true rfl) ⟨(Nat.le_of_ble_eq_true rfl), (Nat.le_of_ble_eq_true rfl), by omega, by omega⟩ (fun rv7 hn7 hq7 => ?_) (fun E h2 hx => by obtain ⟨h3, h4, h5⟩ := hx; subst h5; have hx : ¬ _ ∧ True := ⟨h3, trivial⟩; exact jd_xout rfl (jd_th.mk (k := 2) (by unfold c_gate; (try simp only [hT_o1, hT_o2]); rw [if_pos hb0, if_pos hb1, if_pos hb5, if_pos hb6, if_neg hx.1]) (by decide) h4))
    obtain ⟨hb7, rfl, he7⟩ := hq7
    rw [he7]
    refine jd_aload_n dX1_gate_40 rfl ?_
    refine jd_get in_X1 ((w_this hw)) 1 q284 dX1_gate_41 rfl (Nat.le_of_ble_eq_true rfl) rfl ?_
    refine jd_pF (n := 0) (As := []) (rest := []) (ct_J2_size hlG (show nG κ ≤ 900 by omega)) (jd_rv hlG 15 rfl rfl) (ci := 15) rfl (List.mem_of_getElem? (i := 2) rfl) rfl q339 q342 q344 q83 q346 q341 q345 q343 q207 ⟨by decide, by decide, by decide +kernel⟩ dX1_gate_44 rfl rfl (Nat.le_of_ble_eq_true rfl) ⟨(Nat.le_of_ble_eq_true rfl), (Nat.le_of_ble_eq_true rfl)⟩ ?_
    refine jd_bipush (v := 8) dX1_gate_49 (by decide) ?_
    refine jd_mg2 59 (.int (jd_b ((¬ (8 ≤ nG κ))))) (fun hj9 => ?_) ?_
    · refine jd_ncmp_ge (a := nG κ) (b := 8) (tgt := 58) dX1_gate_51 (by decide) (by omega) (by omega) (fun z10 => ?_) (fun z11 => ?_)
      · refine jd_iconst (v := 0) dX1_gate_58 (by decide) ?_
        exact jd_top (congrArg Value.int (jd_b0 (fun w => w z10)).symm) hj9
      · refine jd_iconst (v := 1) dX1_gate_54 (by decide) ?_
        refine jd_goto (tgt := 59) dX1_gate_55 (by decide) ?_
        exact jd_top (congrArg Value.int (jd_b1 (Nat.not_le.mpr z11)).symm) hj9
    · refine jd_callS (As := [.int (jd_b ((¬ (8 ≤ nG κ))))]) (rest := []) (ct_X1_checkState ((¬ (8 ≤ nG κ)))) rfl q747 q748 q80 q749 nX1_checkState dX1_gate_59 rfl rfl (Nat.le_of_ble_eq_true rfl) ⟨(Nat.le_of_ble_eq_true rfl), (Nat.le_of_ble_eq_true rfl), by omega, by omega⟩ (fun rv11 hn11 hq11 => ?_) (fun E h2 hx => by obtain ⟨h3, h4, h5⟩ := hx; subst h5; have hx : ¬ _ ∧ True := ⟨h3, trivial⟩; exact jd_xout rfl (jd_th.mk (k := 3) (by unfold c_gate; (try simp only [hT_o1, hT_o2]); rw [if_pos hb0, if_pos hb1, if_pos hb5, if_pos hb6, if_pos hb7, if_neg hx.1]) (by decide) h4))
      obtain ⟨hb11, rfl, he11⟩ := hq11
      rw [he11]
      refine jd_aload_n dX1_gate_62 rfl ?_
      refine jd_get in_X1 ((w_this hw)) 1 q284 dX1_gate_63 rfl (Nat.le_of_ble_eq_true rfl) rfl ?_
      refine jd_new (fs := [.int (0), .int (0), .int (0), .int (0), .int (0), .int (0), .null, .null]) in_X7 tyX7_ok q347 q772 q103 dX1_gate_66 3 rfl rfl (by omega) (by omega) (fun qp hqp => ?_)
      refine jd_dup dX1_gate_69 rfl ?_
      refine jd_iload_n dX1_gate_70 rfl ?_
      refine jd_iload_n dX1_gate_71 rfl ?_
      refine jd_iload_n dX1_gate_72 rfl ?_
      refine jd_iload dX1_gate_73 rfl ?_
      refine jd_callI (As := [.int (nI k_o1), .int (nI k_o2), .int (fr), .int (hr)]) (rest := [.ref (qp), .ref (β 0 3)]) (ct_X7_init jd_up_s (nI k_o1) (nI k_o2) (fr) (hr)) rfl rfl q773 q774 q103 q775 nX7_init dX1_gate_75 rfl rfl (Nat.le_of_ble_eq_true rfl) ⟨(Nat.le_of_ble_eq_true rfl), (Nat.le_of_ble_eq_true rfl), by omega, by omega⟩ (fun rv12 hn12 hq12 => ?_) jd_nox
      obtain ⟨rfl, qa, ql, n1, n2, n3, e1, e2, e3, e4, e5, e6⟩ := hq12
      have hqa : h (0, qa) = none := (jd_up_n (fun z => n1 (by injection z with _ z; exact z.symm))).symm.trans e1
      have hql : h (0, ql) = none := (jd_up_n (fun z => n2 (by injection z with _ z; exact z.symm))).symm.trans e2
      have hold : ∀ j : jd_Id, j ≠ (0, qp) → j ≠ (0, qa) → j ≠ (0, ql) → hn12 j = h j := fun j a b d => (e6 j a b d).trans (jd_up_n a)
      have hzz : ∀ (x : Nat) (y : Nat × jd_E), h (0, x) = some y → hn12 (0, x) = some y := fun x y e => (hold _ (fun z => by rw [z, hqp] at e; cases e) (fun z => by rw [z, hqa] at e; cases e) (fun z => by rw [z, hql] at e; cases e)).trans e
      have hlg := (hold (2, 1) (fun z => by cases z) (fun z => by cases z) (fun z => by cases z)).trans hlG
      refine jd_callF (n := 1) (As := [.ref (qp)]) (rest := []) (ct_J2_add (n := nG κ) hlg (show nG κ ≤ 600 by omega) (Cn := "Lullabygate$Gate") q2017 (fun k hk => Or.inl ⟨(4, k), _, 3, _, (hold (4, k) (fun z => by cases z) (fun z => by cases z) (fun z => by cases z)).trans (w_gate hw k hk), rfl, rfl, rfl⟩) (Or.inl ⟨(0, qp), _, 3, _, e3, rfl, rfl, rfl⟩)) (jd_rv hlg 15 rfl rfl) (ci := 15) rfl (List.mem_of_getElem? (i := 0) rfl) rfl q204 q208 q210 q83 q212 q206 q211 q209 q207 ⟨by decide, by decide, by decide +kernel⟩ dX1_gate_78 rfl rfl (Nat.le_of_ble_eq_true rfl) ⟨(Nat.le_of_ble_eq_true rfl), (Nat.le_of_ble_eq_true rfl), by omega, by omega⟩ (fun rv13 hn13 hq13 => ?_) jd_nox
      obtain ⟨rfl, he13⟩ := hq13
      rw [he13]
      refine jd_updG (fun h6 hs6 ho6 => ?_)
      refine jd_lst ((ho6 _ (fun z => by cases z)).trans e5) (f2 := fun _ => β 5 12) (fun k hk => absurd hk (Nat.not_lt_zero k)) ?_
      refine jd_updG (fun h8 hs8 ho8 => ?_)
      have ho9 : ∀ j : jd_Id, j ≠ (2, 1) → j ≠ (0, ql) → h8 j = hn12 j := fun j a b => (ho8 j b).trans (ho6 j a)
      refine jd_map3 (n := nG κ) ((ho9 _ (fun z => by cases z) (fun z => n2 (by injection z))).trans e3) hs8 ((ho9 _ (fun z => by cases z) (fun z => n3 (by injection z))).trans e4) n2 n1 (Ne.symm n3) (fun h7 g4 g5 g6 g7 => ?_)
      have hw7 := wu_addG hw g4 g5 g6 ⟨_, (g7 _ (fun z => by cases z) (fun z => by cases z) (fun z => by cases z) (fun z => by cases z) (fun z => by cases z) (fun z => by cases z)).trans ((ho8 _ (fun z => by cases z)).trans hs6)⟩ (fun j a b c d e => (g7 j b c d (fun z => a (by rw [z])) (fun z => a (by rw [z])) (fun z => a (by rw [z]))).trans ((ho9 j e (fun z => a (by rw [z]))).trans (hold j (fun z => a (by rw [z])) (fun z => a (by rw [z])) (fun z => a (by rw [z]))))) (fun x y e => (g7 _ (fun z => by cases z) (fun z => by cases z) (fun z => by cases z) (fun z => by rw [z, hqp] at e; cases e) (fun z => by rw [z, hql] at e; cases e) (fun z => by rw [z, hqa] at e; cases e)).trans ((ho9 _ (fun z => by cases z) (fun z => by rw [z, hql] at e; cases e)).trans (hzz x y e)))
      have hf7 : ∀ j : jd_Id, 20 ≤ j.1 → h7 j = h j := fun j hj => (g7 j (ll_nek (by decide) hj) (ll_nek (by decide) hj) (ll_nek (by decide) hj) (ll_nek (by decide) hj) (ll_nek (by decide) hj) (ll_nek (by decide) hj)).trans ((ho9 j (ll_nek (by decide) hj) (ll_nek (by decide) hj)).trans (hold j (ll_nek (by decide) hj) (ll_nek (by decide) hj) (ll_nek (by decide) hj)))
      refine jd_pop dX1_gate_83 rfl ?_
      refine jd_aload_n dX1_gate_84 rfl ?_
      have ff15 := w_this hw7
      refine jd_get in_X1 ff15 1 q284 dX1_gate_85 rfl (Nat.le_of_ble_eq_true rfl) rfl ?_
      obtain ⟨mcl16, hl16_⟩ := w_gates hw7
      refine jd_pF (n := 0) (As := []) (rest := []) (ct_J2_size hl16_ (show (nG κ + 1) ≤ 900 by omega)) (jd_rv hl16_ 15 rfl rfl) (ci := 15) rfl (List.mem_of_getElem? (i := 2) rfl) rfl q339 q342 q344 q83 q346 q341 q345 q343 q207 ⟨by decide, by decide, by decide +kernel⟩ dX1_gate_88 rfl rfl (Nat.le_of_ble_eq_true rfl) ⟨(Nat.le_of_ble_eq_true rfl), (Nat.le_of_ble_eq_true rfl)⟩ ?_
      refine jd_iconst (v := 1) dX1_gate_93 (by decide) ?_
      refine jd_isubN (a := (nG κ + 1)) (b := 1) dX1_gate_94 (by omega) ?_
      exact jd_iret dX1_gate_95 rfl ⟨by unfold c_gate; (try simp only [hT_o1, hT_o2]); rw [if_pos hb0, if_pos hb1, if_pos hb5, if_pos hb6, if_pos hb7, if_pos hb11], by first | rfl | (simp only [hT_o1, hT_o2]; done) | (simp only [hT_o1, hT_o2]; rfl), (ll_bu (ll_bu (ll_bu β 2 (nG κ) qp) 4 (nG κ) qa) 3 (nG κ) ql), rfl, (by first | exact hw7 | (simp only [hT_o1, hT_o2]; exact hw7)), (fun j hj => (hf7 j hj))⟩

set_option maxRecDepth 20000 in
set_option maxHeartbeats 2000000 in
theorem ct_X2_init {G : jd_G} {h : jd_H} {i : jd_Id} {a : Nat} (ho : h i = some (a, .inl (.inr (1, [.int (0), .int (0)]))))  : jd_Ct G mX2_init 1 (0) (0) [.ref (a)] h (jd_vd (jd_up h i (a, .inl (.inr (1, [.int (3), .int (0)]))))) jd_no := by
  refine jd_ct (ls := [some (.ref (a))]) rfl rfl (by decide) (Nat.le_of_ble_eq_true rfl) rfl ?_
  refine jd_aload_n dX2_init_0 rfl ?_
  refine jd_oinit q166 q130 q131 dX2_init_1 (Nat.le_of_ble_eq_true rfl) ?_ (Nat.le_of_ble_eq_true rfl)
  refine jd_aload_n dX2_init_4 rfl ?_
  refine jd_iconst (v := 3) dX2_init_5 (by decide) ?_
  refine jd_put (fs' := [_, _]) in_X2 tyX2_ok nmX2 ho 0 q167 dX2_init_6 rfl (Nat.le_of_ble_eq_true rfl) rfl rfl rfl (Nat.le_of_ble_eq_true rfl) rfl ?_
  exact jd_vret dX2_init_9 rfl ⟨rfl, rfl⟩

set_option maxRecDepth 20000 in
set_option maxHeartbeats 2000000 in
theorem ct_X3_init {G : jd_G} {h : jd_H} {i : jd_Id} {a : Nat} (ho : h i = some (a, .inl (.inr (2, [.int (0), .int (0), .int (0), .int (0), .int (0), .int (0)]))))  : jd_Ct G mX3_init 1 (0) (0) [.ref (a)] h (jd_vd (jd_up h i (a, .inl (.inr (2, [.int (10), .int (20), .int (5), .int (0), .int (0), .int (0)]))))) jd_no := by
  refine jd_ct (ls := [some (.ref (a))]) rfl rfl (by decide) (Nat.le_of_ble_eq_true rfl) rfl ?_
  refine jd_aload_n dX3_init_0 rfl ?_
  refine jd_oinit q180 q130 q131 dX3_init_1 (Nat.le_of_ble_eq_true rfl) ?_ (Nat.le_of_ble_eq_true rfl)
  refine jd_aload_n dX3_init_4 rfl ?_
  refine jd_bipush (v := 10) dX3_init_5 (by decide) ?_
  refine jd_put (fs' := [_, _, _, _, _, _]) in_X3 tyX3_ok nmX3 ho 0 q181 dX3_init_7 rfl (Nat.le_of_ble_eq_true rfl) rfl rfl rfl (Nat.le_of_ble_eq_true rfl) rfl ?_
  refine jd_aload_n dX3_init_10 rfl ?_
  refine jd_bipush (v := 20) dX3_init_11 (by decide) ?_
  refine jd_put (fs' := [_, _, _, _, _, _]) in_X3 tyX3_ok nmX3 jd_up_s 1 q183 dX3_init_13 rfl (Nat.le_of_ble_eq_true rfl) rfl rfl rfl (Nat.le_of_ble_eq_true rfl) rfl ?_
  rw [jd_up_up]
  refine jd_aload_n dX3_init_16 rfl ?_
  refine jd_iconst (v := 5) dX3_init_17 (by decide) ?_
  refine jd_put (fs' := [_, _, _, _, _, _]) in_X3 tyX3_ok nmX3 jd_up_s 2 q185 dX3_init_18 rfl (Nat.le_of_ble_eq_true rfl) rfl rfl rfl (Nat.le_of_ble_eq_true rfl) rfl ?_
  rw [jd_up_up]
  exact jd_vret dX3_init_21 rfl ⟨rfl, rfl⟩

set_option maxRecDepth 20000 in
set_option maxHeartbeats 2000000 in
theorem ct_X1_init {G : jd_G} {h : jd_H} {a : Nat} (ho : h (0, a) = some (a, .inl (.inr (0, [.null, .null, .null, .null, .null, .null, .int (0), .int (0), .int (0)])))) : jd_Ct G mX1_init 12 (18) (170) [.ref (a)] h (fun (v : Option Value) (h2 : jd_H) => v = none ∧ ∃ β : ll_B, β 0 0 = a ∧ WC G β k_0 h2 ∧ ∀ j : jd_Id, 20 ≤ j.1 → h2 j = h j) jd_no := by
  refine jd_ct (ls := [some (.ref (a)), none]) rfl rfl (by decide) (Nat.le_of_ble_eq_true rfl) rfl ?_
  refine jd_aload_n dX1_init_0 rfl ?_
  refine jd_oinit q129 q130 q131 dX1_init_1 (Nat.le_of_ble_eq_true rfl) ?_ (Nat.le_of_ble_eq_true rfl)
  refine jd_aload_n dX1_init_4 rfl ?_
  refine jd_new (fs := [.int (0), .null, .int (0)]) in_J2 tyJ2_ok q132 q133 q83 dX1_init_5 15 rfl rfl (by omega) (by omega) (fun l1 hl1 => ?_)
  have ne_a_l1 : ((0, a) : jd_Id) ≠ (0, l1) := fun z => by have := ho; rw [z, hl1] at this; cases this
  refine jd_updG (fun h1 hs1 ho1 => ?_)
  have hf1_a := (ho1 _ ne_a_l1).trans ho
  refine jd_dup dX1_init_8 rfl ?_
  refine jd_callI (As := []) (rest := [.ref (l1), .ref (a)]) (ct_J2_init hs1) rfl rfl q134 q135 q83 q136 nJ2_init dX1_init_9 rfl rfl (Nat.le_of_ble_eq_true rfl) ⟨(Nat.le_of_ble_eq_true rfl), (Nat.le_of_ble_eq_true rfl), by omega, by omega⟩ (fun rv1 hn1 hq1 => ?_) jd_nox
  obtain ⟨rfl, he1⟩ := hq1
  rw [he1]
  refine jd_updG (fun h3 hs3 ho3 => ?_)
  have hf3_a := (ho3 _ ne_a_l1).trans hf1_a
  refine jd_putF (fs' := [_, _, _, _, _, _, _, _, _]) in_X1 tyX1_ok nmX1 hf3_a 0 q283 dX1_init_12 rfl (Nat.le_of_ble_eq_true rfl) rfl rfl rfl rfl rfl (Nat.le_of_ble_eq_true rfl) rfl ?_
  refine jd_updG (fun h4 hs4 ho4 => ?_)
  have hf4_l1 := (ho4 _ (Ne.symm ne_a_l1)).trans hs3
  refine jd_aload_n dX1_init_15 rfl ?_
  refine jd_new (fs := [.int (0), .null, .int (0)]) in_J2 tyJ2_ok q132 q133 q83 dX1_init_16 15 rfl rfl (by omega) (by omega) (fun l2 hl2 => ?_)
  have ne_l1_l2 : ((0, l1) : jd_Id) ≠ (0, l2) := fun z => by have := hf4_l1; rw [z, hl2] at this; cases this
  have ne_a_l2 : ((0, a) : jd_Id) ≠ (0, l2) := fun z => by have := hs4; rw [z, hl2] at this; cases this
  refine jd_updG (fun h5 hs5 ho5 => ?_)
  have hf5_l1 := (ho5 _ ne_l1_l2).trans hf4_l1
  have hf5_a := (ho5 _ ne_a_l2).trans hs4
  refine jd_dup dX1_init_19 rfl ?_
  refine jd_callI (As := []) (rest := [.ref (l2), .ref (a)]) (ct_J2_init hs5) rfl rfl q134 q135 q83 q136 nJ2_init dX1_init_20 rfl rfl (Nat.le_of_ble_eq_true rfl) ⟨(Nat.le_of_ble_eq_true rfl), (Nat.le_of_ble_eq_true rfl), by omega, by omega⟩ (fun rv5 hn5 hq5 => ?_) jd_nox
  obtain ⟨rfl, he5⟩ := hq5
  rw [he5]
  refine jd_updG (fun h7 hs7 ho7 => ?_)
  have hf7_l1 := (ho7 _ ne_l1_l2).trans hf5_l1
  have hf7_a := (ho7 _ ne_a_l2).trans hf5_a
  refine jd_putF (fs' := [_, _, _, _, _, _, _, _, _]) in_X1 tyX1_ok nmX1 hf7_a 1 q284 dX1_init_23 rfl (Nat.le_of_ble_eq_true rfl) rfl rfl rfl rfl rfl (Nat.le_of_ble_eq_true rfl) rfl ?_
  refine jd_updG (fun h8 hs8 ho8 => ?_)
  have hf8_l1 := (ho8 _ (Ne.symm ne_a_l1)).trans hf7_l1
  have hf8_l2 := (ho8 _ (Ne.symm ne_a_l2)).trans hs7
  refine jd_aload_n dX1_init_26 rfl ?_
  refine jd_new (fs := [.int (0), .null, .int (0)]) in_J2 tyJ2_ok q132 q133 q83 dX1_init_27 15 rfl rfl (by omega) (by omega) (fun l3 hl3 => ?_)
  have ne_l1_l3 : ((0, l1) : jd_Id) ≠ (0, l3) := fun z => by have := hf8_l1; rw [z, hl3] at this; cases this
  have ne_l2_l3 : ((0, l2) : jd_Id) ≠ (0, l3) := fun z => by have := hf8_l2; rw [z, hl3] at this; cases this
  have ne_a_l3 : ((0, a) : jd_Id) ≠ (0, l3) := fun z => by have := hs8; rw [z, hl3] at this; cases this
  refine jd_updG (fun h9 hs9 ho9 => ?_)
  have hf9_l1 := (ho9 _ ne_l1_l3).trans hf8_l1
  have hf9_l2 := (ho9 _ ne_l2_l3).trans hf8_l2
  have hf9_a := (ho9 _ ne_a_l3).trans hs8
  refine jd_dup dX1_init_30 rfl ?_
  refine jd_callI (As := []) (rest := [.ref (l3), .ref (a)]) (ct_J2_init hs9) rfl rfl q134 q135 q83 q136 nJ2_init dX1_init_31 rfl rfl (Nat.le_of_ble_eq_true rfl) ⟨(Nat.le_of_ble_eq_true rfl), (Nat.le_of_ble_eq_true rfl), by omega, by omega⟩ (fun rv9 hn9 hq9 => ?_) jd_nox
  obtain ⟨rfl, he9⟩ := hq9
  rw [he9]
  refine jd_updG (fun h11 hs11 ho11 => ?_)
  have hf11_l1 := (ho11 _ ne_l1_l3).trans hf9_l1
  have hf11_l2 := (ho11 _ ne_l2_l3).trans hf9_l2
  have hf11_a := (ho11 _ ne_a_l3).trans hf9_a
  refine jd_putF (fs' := [_, _, _, _, _, _, _, _, _]) in_X1 tyX1_ok nmX1 hf11_a 2 q285 dX1_init_34 rfl (Nat.le_of_ble_eq_true rfl) rfl rfl rfl rfl rfl (Nat.le_of_ble_eq_true rfl) rfl ?_
  refine jd_updG (fun h12 hs12 ho12 => ?_)
  have hf12_l1 := (ho12 _ (Ne.symm ne_a_l1)).trans hf11_l1
  have hf12_l2 := (ho12 _ (Ne.symm ne_a_l2)).trans hf11_l2
  have hf12_l3 := (ho12 _ (Ne.symm ne_a_l3)).trans hs11
  refine jd_aload_n dX1_init_37 rfl ?_
  refine jd_new (fs := [.int (0), .null, .int (0)]) in_J2 tyJ2_ok q132 q133 q83 dX1_init_38 15 rfl rfl (by omega) (by omega) (fun l4 hl4 => ?_)
  have ne_l1_l4 : ((0, l1) : jd_Id) ≠ (0, l4) := fun z => by have := hf12_l1; rw [z, hl4] at this; cases this
  have ne_l2_l4 : ((0, l2) : jd_Id) ≠ (0, l4) := fun z => by have := hf12_l2; rw [z, hl4] at this; cases this
  have ne_l3_l4 : ((0, l3) : jd_Id) ≠ (0, l4) := fun z => by have := hf12_l3; rw [z, hl4] at this; cases this
  have ne_a_l4 : ((0, a) : jd_Id) ≠ (0, l4) := fun z => by have := hs12; rw [z, hl4] at this; cases this
  refine jd_updG (fun h13 hs13 ho13 => ?_)
  have hf13_l1 := (ho13 _ ne_l1_l4).trans hf12_l1
  have hf13_l2 := (ho13 _ ne_l2_l4).trans hf12_l2
  have hf13_l3 := (ho13 _ ne_l3_l4).trans hf12_l3
  have hf13_a := (ho13 _ ne_a_l4).trans hs12
  refine jd_dup dX1_init_41 rfl ?_
  refine jd_callI (As := []) (rest := [.ref (l4), .ref (a)]) (ct_J2_init hs13) rfl rfl q134 q135 q83 q136 nJ2_init dX1_init_42 rfl rfl (Nat.le_of_ble_eq_true rfl) ⟨(Nat.le_of_ble_eq_true rfl), (Nat.le_of_ble_eq_true rfl), by omega, by omega⟩ (fun rv13 hn13 hq13 => ?_) jd_nox
  obtain ⟨rfl, he13⟩ := hq13
  rw [he13]
  refine jd_updG (fun h15 hs15 ho15 => ?_)
  have hf15_l1 := (ho15 _ ne_l1_l4).trans hf13_l1
  have hf15_l2 := (ho15 _ ne_l2_l4).trans hf13_l2
  have hf15_l3 := (ho15 _ ne_l3_l4).trans hf13_l3
  have hf15_a := (ho15 _ ne_a_l4).trans hf13_a
  refine jd_putF (fs' := [_, _, _, _, _, _, _, _, _]) in_X1 tyX1_ok nmX1 hf15_a 3 q286 dX1_init_45 rfl (Nat.le_of_ble_eq_true rfl) rfl rfl rfl rfl rfl (Nat.le_of_ble_eq_true rfl) rfl ?_
  refine jd_updG (fun h16 hs16 ho16 => ?_)
  have hf16_l1 := (ho16 _ (Ne.symm ne_a_l1)).trans hf15_l1
  have hf16_l2 := (ho16 _ (Ne.symm ne_a_l2)).trans hf15_l2
  have hf16_l3 := (ho16 _ (Ne.symm ne_a_l3)).trans hf15_l3
  have hf16_l4 := (ho16 _ (Ne.symm ne_a_l4)).trans hs15
  refine jd_aload_n dX1_init_48 rfl ?_
  refine jd_new (fs := [.int (0), .null, .int (0)]) in_J2 tyJ2_ok q132 q133 q83 dX1_init_49 15 rfl rfl (by omega) (by omega) (fun l5 hl5 => ?_)
  have ne_l1_l5 : ((0, l1) : jd_Id) ≠ (0, l5) := fun z => by have := hf16_l1; rw [z, hl5] at this; cases this
  have ne_l2_l5 : ((0, l2) : jd_Id) ≠ (0, l5) := fun z => by have := hf16_l2; rw [z, hl5] at this; cases this
  have ne_l3_l5 : ((0, l3) : jd_Id) ≠ (0, l5) := fun z => by have := hf16_l3; rw [z, hl5] at this; cases this
  have ne_l4_l5 : ((0, l4) : jd_Id) ≠ (0, l5) := fun z => by have := hf16_l4; rw [z, hl5] at this; cases this
  have ne_a_l5 : ((0, a) : jd_Id) ≠ (0, l5) := fun z => by have := hs16; rw [z, hl5] at this; cases this
  refine jd_updG (fun h17 hs17 ho17 => ?_)
  have hf17_l1 := (ho17 _ ne_l1_l5).trans hf16_l1
  have hf17_l2 := (ho17 _ ne_l2_l5).trans hf16_l2
  have hf17_l3 := (ho17 _ ne_l3_l5).trans hf16_l3
  have hf17_l4 := (ho17 _ ne_l4_l5).trans hf16_l4
  have hf17_a := (ho17 _ ne_a_l5).trans hs16
  refine jd_dup dX1_init_52 rfl ?_
  refine jd_callI (As := []) (rest := [.ref (l5), .ref (a)]) (ct_J2_init hs17) rfl rfl q134 q135 q83 q136 nJ2_init dX1_init_53 rfl rfl (Nat.le_of_ble_eq_true rfl) ⟨(Nat.le_of_ble_eq_true rfl), (Nat.le_of_ble_eq_true rfl), by omega, by omega⟩ (fun rv17 hn17 hq17 => ?_) jd_nox
  obtain ⟨rfl, he17⟩ := hq17
  rw [he17]
  refine jd_updG (fun h19 hs19 ho19 => ?_)
  have hf19_l1 := (ho19 _ ne_l1_l5).trans hf17_l1
  have hf19_l2 := (ho19 _ ne_l2_l5).trans hf17_l2
  have hf19_l3 := (ho19 _ ne_l3_l5).trans hf17_l3
  have hf19_l4 := (ho19 _ ne_l4_l5).trans hf17_l4
  have hf19_a := (ho19 _ ne_a_l5).trans hf17_a
  refine jd_putF (fs' := [_, _, _, _, _, _, _, _, _]) in_X1 tyX1_ok nmX1 hf19_a 4 q287 dX1_init_56 rfl (Nat.le_of_ble_eq_true rfl) rfl rfl rfl rfl rfl (Nat.le_of_ble_eq_true rfl) rfl ?_
  refine jd_updG (fun h20 hs20 ho20 => ?_)
  have hf20_l1 := (ho20 _ (Ne.symm ne_a_l1)).trans hf19_l1
  have hf20_l2 := (ho20 _ (Ne.symm ne_a_l2)).trans hf19_l2
  have hf20_l3 := (ho20 _ (Ne.symm ne_a_l3)).trans hf19_l3
  have hf20_l4 := (ho20 _ (Ne.symm ne_a_l4)).trans hf19_l4
  have hf20_l5 := (ho20 _ (Ne.symm ne_a_l5)).trans hs19
  refine jd_aload_n dX1_init_59 rfl ?_
  refine jd_new (fs := [.int (0), .int (0)]) in_X2 tyX2_ok q161 q162 q84 dX1_init_60 1 rfl rfl (by omega) (by omega) (fun rw_ hrw_ => ?_)
  have ne_l1_rw_ : ((0, l1) : jd_Id) ≠ (0, rw_) := fun z => by have := hf20_l1; rw [z, hrw_] at this; cases this
  have ne_l2_rw_ : ((0, l2) : jd_Id) ≠ (0, rw_) := fun z => by have := hf20_l2; rw [z, hrw_] at this; cases this
  have ne_l3_rw_ : ((0, l3) : jd_Id) ≠ (0, rw_) := fun z => by have := hf20_l3; rw [z, hrw_] at this; cases this
  have ne_l4_rw_ : ((0, l4) : jd_Id) ≠ (0, rw_) := fun z => by have := hf20_l4; rw [z, hrw_] at this; cases this
  have ne_l5_rw_ : ((0, l5) : jd_Id) ≠ (0, rw_) := fun z => by have := hf20_l5; rw [z, hrw_] at this; cases this
  have ne_a_rw_ : ((0, a) : jd_Id) ≠ (0, rw_) := fun z => by have := hs20; rw [z, hrw_] at this; cases this
  refine jd_updG (fun h21 hs21 ho21 => ?_)
  have hf21_l1 := (ho21 _ ne_l1_rw_).trans hf20_l1
  have hf21_l2 := (ho21 _ ne_l2_rw_).trans hf20_l2
  have hf21_l3 := (ho21 _ ne_l3_rw_).trans hf20_l3
  have hf21_l4 := (ho21 _ ne_l4_rw_).trans hf20_l4
  have hf21_l5 := (ho21 _ ne_l5_rw_).trans hf20_l5
  have hf21_a := (ho21 _ ne_a_rw_).trans hs20
  refine jd_dup dX1_init_63 rfl ?_
  refine jd_callN (As := []) (rest := [.ref (rw_), .ref (a)]) (ct_X2_init hs21) rfl rfl q163 q164 q84 q165 nX2_init dX1_init_64 rfl rfl (Nat.le_of_ble_eq_true rfl) ⟨(Nat.le_of_ble_eq_true rfl), (Nat.le_of_ble_eq_true rfl), by omega, by omega⟩ (fun rv21 hn21 hq21 => ?_) jd_nox
  obtain ⟨rfl, he21⟩ := hq21
  rw [he21]
  refine jd_updG (fun h23 hs23 ho23 => ?_)
  have hf23_l1 := (ho23 _ ne_l1_rw_).trans hf21_l1
  have hf23_l2 := (ho23 _ ne_l2_rw_).trans hf21_l2
  have hf23_l3 := (ho23 _ ne_l3_rw_).trans hf21_l3
  have hf23_l4 := (ho23 _ ne_l4_rw_).trans hf21_l4
  have hf23_l5 := (ho23 _ ne_l5_rw_).trans hf21_l5
  have hf23_a := (ho23 _ ne_a_rw_).trans hf21_a
  refine jd_putF (fs' := [_, _, _, _, _, _, _, _, _]) in_X1 tyX1_ok nmX1 hf23_a 5 q288 dX1_init_67 rfl (Nat.le_of_ble_eq_true rfl) rfl rfl rfl rfl rfl (Nat.le_of_ble_eq_true rfl) rfl ?_
  refine jd_updG (fun h24 hs24 ho24 => ?_)
  have hf24_l1 := (ho24 _ (Ne.symm ne_a_l1)).trans hf23_l1
  have hf24_l2 := (ho24 _ (Ne.symm ne_a_l2)).trans hf23_l2
  have hf24_l3 := (ho24 _ (Ne.symm ne_a_l3)).trans hf23_l3
  have hf24_l4 := (ho24 _ (Ne.symm ne_a_l4)).trans hf23_l4
  have hf24_l5 := (ho24 _ (Ne.symm ne_a_l5)).trans hf23_l5
  have hf24_rw_ := (ho24 _ (Ne.symm ne_a_rw_)).trans hs23
  refine jd_iconst (v := 0) dX1_init_70 (by decide) ?_
  refine jd_istore_n (ls' := [_, _]) dX1_init_71 (Nat.le_of_ble_eq_true rfl) rfl rfl ?_
  refine jd_lsub [some (.ref (a)), some (.int (nI 0))] ⟨rfl, (congrArg (fun x => some (Value.int x)) (rfl)), trivial⟩ ?_
  refine jd_iload_n dX1_init_72 rfl ?_
  refine jd_bipush (v := 6) dX1_init_73 (by decide) ?_
  refine jd_ncmp_ge (a := 0) (b := 6) (tgt := 101) dX1_init_75 (by decide) (by omega) (by omega) (fun z25 => ?_) (fun z26 => ?_)
  · omega
  · refine jd_aload_n dX1_init_78 rfl ?_
    refine jd_get in_X1 hs24 0 q283 dX1_init_79 rfl (Nat.le_of_ble_eq_true rfl) rfl ?_
    refine jd_new (fs := [.int (0), .int (0), .int (0), .int (0), .int (0), .int (0)]) in_X3 tyX3_ok q175 q176 q85 dX1_init_82 2 rfl rfl (by omega) (by omega) (fun d0 hd0 => ?_)
    have ne_l1_d0 : ((0, l1) : jd_Id) ≠ (0, d0) := fun z => by have := hf24_l1; rw [z, hd0] at this; cases this
    have ne_l2_d0 : ((0, l2) : jd_Id) ≠ (0, d0) := fun z => by have := hf24_l2; rw [z, hd0] at this; cases this
    have ne_l3_d0 : ((0, l3) : jd_Id) ≠ (0, d0) := fun z => by have := hf24_l3; rw [z, hd0] at this; cases this
    have ne_l4_d0 : ((0, l4) : jd_Id) ≠ (0, d0) := fun z => by have := hf24_l4; rw [z, hd0] at this; cases this
    have ne_l5_d0 : ((0, l5) : jd_Id) ≠ (0, d0) := fun z => by have := hf24_l5; rw [z, hd0] at this; cases this
    have ne_rw__d0 : ((0, rw_) : jd_Id) ≠ (0, d0) := fun z => by have := hf24_rw_; rw [z, hd0] at this; cases this
    have ne_a_d0 : ((0, a) : jd_Id) ≠ (0, d0) := fun z => by have := hs24; rw [z, hd0] at this; cases this
    refine jd_updG (fun h27 hs27 ho27 => ?_)
    have hf27_l1 := (ho27 _ ne_l1_d0).trans hf24_l1
    have hf27_l2 := (ho27 _ ne_l2_d0).trans hf24_l2
    have hf27_l3 := (ho27 _ ne_l3_d0).trans hf24_l3
    have hf27_l4 := (ho27 _ ne_l4_d0).trans hf24_l4
    have hf27_l5 := (ho27 _ ne_l5_d0).trans hf24_l5
    have hf27_rw_ := (ho27 _ ne_rw__d0).trans hf24_rw_
    have hf27_a := (ho27 _ ne_a_d0).trans hs24
    refine jd_dup dX1_init_85 rfl ?_
    refine jd_callN (As := []) (rest := [.ref (d0), .ref (l1)]) (ct_X3_init hs27) rfl rfl q177 q178 q85 q179 nX3_init dX1_init_86 rfl rfl (Nat.le_of_ble_eq_true rfl) ⟨(Nat.le_of_ble_eq_true rfl), (Nat.le_of_ble_eq_true rfl), by omega, by omega⟩ (fun rv27 hn27 hq27 => ?_) jd_nox
    obtain ⟨rfl, he27⟩ := hq27
    rw [he27]
    refine jd_updG (fun h29 hs29 ho29 => ?_)
    have hf29_l1 := (ho29 _ ne_l1_d0).trans hf27_l1
    have hf29_l2 := (ho29 _ ne_l2_d0).trans hf27_l2
    have hf29_l3 := (ho29 _ ne_l3_d0).trans hf27_l3
    have hf29_l4 := (ho29 _ ne_l4_d0).trans hf27_l4
    have hf29_l5 := (ho29 _ ne_l5_d0).trans hf27_l5
    have hf29_rw_ := (ho29 _ ne_rw__d0).trans hf27_rw_
    have hf29_a := (ho29 _ ne_a_d0).trans hf27_a
    refine jd_callF (n := 1) (As := [.ref (d0)]) (rest := []) (ct_J2_add (n := 0) hf29_l1 (show 0 ≤ 600 by omega) (x := d0) (Cn := "Lullabygate$Land") q2010 (fun k hk => absurd hk (Nat.not_lt_zero k)) (Or.inl ⟨(0, d0), _, 2, _, hs29, rfl, rfl, rfl⟩)) (jd_rv hf29_l1 15 rfl rfl) (ci := 15) rfl (List.mem_of_getElem? (i := 0) rfl) rfl q204 q208 q210 q83 q212 q206 q211 q209 q207 ⟨by decide, by decide, by decide +kernel⟩ dX1_init_89 rfl rfl (Nat.le_of_ble_eq_true rfl) ⟨(Nat.le_of_ble_eq_true rfl), (Nat.le_of_ble_eq_true rfl), by omega, by omega⟩ (fun rv29 hn29 hq29 => ?_) jd_nox
    obtain ⟨rfl, he29⟩ := hq29
    rw [he29]
    refine jd_updG (fun h31 hs31 ho31 => ?_)
    have hf31_l2 := (ho31 _ (Ne.symm ne_l1_l2)).trans hf29_l2
    have hf31_l3 := (ho31 _ (Ne.symm ne_l1_l3)).trans hf29_l3
    have hf31_l4 := (ho31 _ (Ne.symm ne_l1_l4)).trans hf29_l4
    have hf31_l5 := (ho31 _ (Ne.symm ne_l1_l5)).trans hf29_l5
    have hf31_rw_ := (ho31 _ (Ne.symm ne_l1_rw_)).trans hf29_rw_
    have hf31_a := (ho31 _ ne_a_l1).trans hf29_a
    have hf31_d0 := (ho31 _ (Ne.symm ne_l1_d0)).trans hs29
    refine jd_pop dX1_init_94 rfl ?_
    refine jd_iincN (n := 1) (ls' := [_, _]) dX1_init_95 rfl (Nat.le_of_ble_eq_true rfl) rfl rfl ?_
    refine jd_goto (tgt := 72) dX1_init_98 (by decide) ?_
    refine jd_iload_n dX1_init_72 rfl ?_
    refine jd_bipush (v := 6) dX1_init_73 (by decide) ?_
    refine jd_ncmp_ge (a := 1) (b := 6) (tgt := 101) dX1_init_75 (by decide) (by omega) (by omega) (fun z32 => ?_) (fun z33 => ?_)
    · omega
    · refine jd_aload_n dX1_init_78 rfl ?_
      refine jd_get in_X1 hf31_a 0 q283 dX1_init_79 rfl (Nat.le_of_ble_eq_true rfl) rfl ?_
      refine jd_new (fs := [.int (0), .int (0), .int (0), .int (0), .int (0), .int (0)]) in_X3 tyX3_ok q175 q176 q85 dX1_init_82 2 rfl rfl (by omega) (by omega) (fun d1 hd1 => ?_)
      have ne_l2_d1 : ((0, l2) : jd_Id) ≠ (0, d1) := fun z => by have := hf31_l2; rw [z, hd1] at this; cases this
      have ne_l3_d1 : ((0, l3) : jd_Id) ≠ (0, d1) := fun z => by have := hf31_l3; rw [z, hd1] at this; cases this
      have ne_l4_d1 : ((0, l4) : jd_Id) ≠ (0, d1) := fun z => by have := hf31_l4; rw [z, hd1] at this; cases this
      have ne_l5_d1 : ((0, l5) : jd_Id) ≠ (0, d1) := fun z => by have := hf31_l5; rw [z, hd1] at this; cases this
      have ne_rw__d1 : ((0, rw_) : jd_Id) ≠ (0, d1) := fun z => by have := hf31_rw_; rw [z, hd1] at this; cases this
      have ne_a_d1 : ((0, a) : jd_Id) ≠ (0, d1) := fun z => by have := hf31_a; rw [z, hd1] at this; cases this
      have ne_d0_d1 : ((0, d0) : jd_Id) ≠ (0, d1) := fun z => by have := hf31_d0; rw [z, hd1] at this; cases this
      have ne_l1_d1 : ((0, l1) : jd_Id) ≠ (0, d1) := fun z => by have := hs31; rw [z, hd1] at this; cases this
      refine jd_updG (fun h34 hs34 ho34 => ?_)
      have hf34_l2 := (ho34 _ ne_l2_d1).trans hf31_l2
      have hf34_l3 := (ho34 _ ne_l3_d1).trans hf31_l3
      have hf34_l4 := (ho34 _ ne_l4_d1).trans hf31_l4
      have hf34_l5 := (ho34 _ ne_l5_d1).trans hf31_l5
      have hf34_rw_ := (ho34 _ ne_rw__d1).trans hf31_rw_
      have hf34_a := (ho34 _ ne_a_d1).trans hf31_a
      have hf34_d0 := (ho34 _ ne_d0_d1).trans hf31_d0
      have hf34_l1 := (ho34 _ ne_l1_d1).trans hs31
      refine jd_dup dX1_init_85 rfl ?_
      refine jd_callN (As := []) (rest := [.ref (d1), .ref (l1)]) (ct_X3_init hs34) rfl rfl q177 q178 q85 q179 nX3_init dX1_init_86 rfl rfl (Nat.le_of_ble_eq_true rfl) ⟨(Nat.le_of_ble_eq_true rfl), (Nat.le_of_ble_eq_true rfl), by omega, by omega⟩ (fun rv34 hn34 hq34 => ?_) jd_nox
      obtain ⟨rfl, he34⟩ := hq34
      rw [he34]
      refine jd_updG (fun h36 hs36 ho36 => ?_)
      have hf36_l2 := (ho36 _ ne_l2_d1).trans hf34_l2
      have hf36_l3 := (ho36 _ ne_l3_d1).trans hf34_l3
      have hf36_l4 := (ho36 _ ne_l4_d1).trans hf34_l4
      have hf36_l5 := (ho36 _ ne_l5_d1).trans hf34_l5
      have hf36_rw_ := (ho36 _ ne_rw__d1).trans hf34_rw_
      have hf36_a := (ho36 _ ne_a_d1).trans hf34_a
      have hf36_d0 := (ho36 _ ne_d0_d1).trans hf34_d0
      have hf36_l1 := (ho36 _ ne_l1_d1).trans hf34_l1
      refine jd_callF (n := 1) (As := [.ref (d1)]) (rest := []) (ct_J2_add (n := 1) hf36_l1 (show 1 ≤ 600 by omega) (x := d1) (Cn := "Lullabygate$Land") q2010 (fun i hi => by rcases (by omega : i = 0) with rfl; exact (Or.inl ⟨(0, d0), _, 2, _, hf36_d0, rfl, rfl, rfl⟩)) (Or.inl ⟨(0, d1), _, 2, _, hs36, rfl, rfl, rfl⟩)) (jd_rv hf36_l1 15 rfl rfl) (ci := 15) rfl (List.mem_of_getElem? (i := 0) rfl) rfl q204 q208 q210 q83 q212 q206 q211 q209 q207 ⟨by decide, by decide, by decide +kernel⟩ dX1_init_89 rfl rfl (Nat.le_of_ble_eq_true rfl) ⟨(Nat.le_of_ble_eq_true rfl), (Nat.le_of_ble_eq_true rfl), by omega, by omega⟩ (fun rv36 hn36 hq36 => ?_) jd_nox
      obtain ⟨rfl, he36⟩ := hq36
      rw [he36]
      refine jd_updG (fun h38 hs38 ho38 => ?_)
      have hf38_l2 := (ho38 _ (Ne.symm ne_l1_l2)).trans hf36_l2
      have hf38_l3 := (ho38 _ (Ne.symm ne_l1_l3)).trans hf36_l3
      have hf38_l4 := (ho38 _ (Ne.symm ne_l1_l4)).trans hf36_l4
      have hf38_l5 := (ho38 _ (Ne.symm ne_l1_l5)).trans hf36_l5
      have hf38_rw_ := (ho38 _ (Ne.symm ne_l1_rw_)).trans hf36_rw_
      have hf38_a := (ho38 _ ne_a_l1).trans hf36_a
      have hf38_d0 := (ho38 _ (Ne.symm ne_l1_d0)).trans hf36_d0
      have hf38_d1 := (ho38 _ (Ne.symm ne_l1_d1)).trans hs36
      refine jd_pop dX1_init_94 rfl ?_
      refine jd_iincN (n := 1) (ls' := [_, _]) dX1_init_95 rfl (Nat.le_of_ble_eq_true rfl) rfl rfl ?_
      refine jd_goto (tgt := 72) dX1_init_98 (by decide) ?_
      refine jd_iload_n dX1_init_72 rfl ?_
      refine jd_bipush (v := 6) dX1_init_73 (by decide) ?_
      refine jd_ncmp_ge (a := 2) (b := 6) (tgt := 101) dX1_init_75 (by decide) (by omega) (by omega) (fun z39 => ?_) (fun z40 => ?_)
      · omega
      · refine jd_aload_n dX1_init_78 rfl ?_
        refine jd_get in_X1 hf38_a 0 q283 dX1_init_79 rfl (Nat.le_of_ble_eq_true rfl) rfl ?_
        refine jd_new (fs := [.int (0), .int (0), .int (0), .int (0), .int (0), .int (0)]) in_X3 tyX3_ok q175 q176 q85 dX1_init_82 2 rfl rfl (by omega) (by omega) (fun d2 hd2 => ?_)
        have ne_l2_d2 : ((0, l2) : jd_Id) ≠ (0, d2) := fun z => by have := hf38_l2; rw [z, hd2] at this; cases this
        have ne_l3_d2 : ((0, l3) : jd_Id) ≠ (0, d2) := fun z => by have := hf38_l3; rw [z, hd2] at this; cases this
        have ne_l4_d2 : ((0, l4) : jd_Id) ≠ (0, d2) := fun z => by have := hf38_l4; rw [z, hd2] at this; cases this
        have ne_l5_d2 : ((0, l5) : jd_Id) ≠ (0, d2) := fun z => by have := hf38_l5; rw [z, hd2] at this; cases this
        have ne_rw__d2 : ((0, rw_) : jd_Id) ≠ (0, d2) := fun z => by have := hf38_rw_; rw [z, hd2] at this; cases this
        have ne_a_d2 : ((0, a) : jd_Id) ≠ (0, d2) := fun z => by have := hf38_a; rw [z, hd2] at this; cases this
        have ne_d0_d2 : ((0, d0) : jd_Id) ≠ (0, d2) := fun z => by have := hf38_d0; rw [z, hd2] at this; cases this
        have ne_d1_d2 : ((0, d1) : jd_Id) ≠ (0, d2) := fun z => by have := hf38_d1; rw [z, hd2] at this; cases this
        have ne_l1_d2 : ((0, l1) : jd_Id) ≠ (0, d2) := fun z => by have := hs38; rw [z, hd2] at this; cases this
        refine jd_updG (fun h41 hs41 ho41 => ?_)
        have hf41_l2 := (ho41 _ ne_l2_d2).trans hf38_l2
        have hf41_l3 := (ho41 _ ne_l3_d2).trans hf38_l3
        have hf41_l4 := (ho41 _ ne_l4_d2).trans hf38_l4
        have hf41_l5 := (ho41 _ ne_l5_d2).trans hf38_l5
        have hf41_rw_ := (ho41 _ ne_rw__d2).trans hf38_rw_
        have hf41_a := (ho41 _ ne_a_d2).trans hf38_a
        have hf41_d0 := (ho41 _ ne_d0_d2).trans hf38_d0
        have hf41_d1 := (ho41 _ ne_d1_d2).trans hf38_d1
        have hf41_l1 := (ho41 _ ne_l1_d2).trans hs38
        refine jd_dup dX1_init_85 rfl ?_
        refine jd_callN (As := []) (rest := [.ref (d2), .ref (l1)]) (ct_X3_init hs41) rfl rfl q177 q178 q85 q179 nX3_init dX1_init_86 rfl rfl (Nat.le_of_ble_eq_true rfl) ⟨(Nat.le_of_ble_eq_true rfl), (Nat.le_of_ble_eq_true rfl), by omega, by omega⟩ (fun rv41 hn41 hq41 => ?_) jd_nox
        obtain ⟨rfl, he41⟩ := hq41
        rw [he41]
        refine jd_updG (fun h43 hs43 ho43 => ?_)
        have hf43_l2 := (ho43 _ ne_l2_d2).trans hf41_l2
        have hf43_l3 := (ho43 _ ne_l3_d2).trans hf41_l3
        have hf43_l4 := (ho43 _ ne_l4_d2).trans hf41_l4
        have hf43_l5 := (ho43 _ ne_l5_d2).trans hf41_l5
        have hf43_rw_ := (ho43 _ ne_rw__d2).trans hf41_rw_
        have hf43_a := (ho43 _ ne_a_d2).trans hf41_a
        have hf43_d0 := (ho43 _ ne_d0_d2).trans hf41_d0
        have hf43_d1 := (ho43 _ ne_d1_d2).trans hf41_d1
        have hf43_l1 := (ho43 _ ne_l1_d2).trans hf41_l1
        refine jd_callF (n := 1) (As := [.ref (d2)]) (rest := []) (ct_J2_add (n := 2) hf43_l1 (show 2 ≤ 600 by omega) (x := d2) (Cn := "Lullabygate$Land") q2010 (fun i hi => by rcases (by omega : i = 0 ∨ i = 1) with rfl | rfl; exact (Or.inl ⟨(0, d0), _, 2, _, hf43_d0, rfl, rfl, rfl⟩); exact (Or.inl ⟨(0, d1), _, 2, _, hf43_d1, rfl, rfl, rfl⟩)) (Or.inl ⟨(0, d2), _, 2, _, hs43, rfl, rfl, rfl⟩)) (jd_rv hf43_l1 15 rfl rfl) (ci := 15) rfl (List.mem_of_getElem? (i := 0) rfl) rfl q204 q208 q210 q83 q212 q206 q211 q209 q207 ⟨by decide, by decide, by decide +kernel⟩ dX1_init_89 rfl rfl (Nat.le_of_ble_eq_true rfl) ⟨(Nat.le_of_ble_eq_true rfl), (Nat.le_of_ble_eq_true rfl), by omega, by omega⟩ (fun rv43 hn43 hq43 => ?_) jd_nox
        obtain ⟨rfl, he43⟩ := hq43
        rw [he43]
        refine jd_updG (fun h45 hs45 ho45 => ?_)
        have hf45_l2 := (ho45 _ (Ne.symm ne_l1_l2)).trans hf43_l2
        have hf45_l3 := (ho45 _ (Ne.symm ne_l1_l3)).trans hf43_l3
        have hf45_l4 := (ho45 _ (Ne.symm ne_l1_l4)).trans hf43_l4
        have hf45_l5 := (ho45 _ (Ne.symm ne_l1_l5)).trans hf43_l5
        have hf45_rw_ := (ho45 _ (Ne.symm ne_l1_rw_)).trans hf43_rw_
        have hf45_a := (ho45 _ ne_a_l1).trans hf43_a
        have hf45_d0 := (ho45 _ (Ne.symm ne_l1_d0)).trans hf43_d0
        have hf45_d1 := (ho45 _ (Ne.symm ne_l1_d1)).trans hf43_d1
        have hf45_d2 := (ho45 _ (Ne.symm ne_l1_d2)).trans hs43
        refine jd_pop dX1_init_94 rfl ?_
        refine jd_iincN (n := 1) (ls' := [_, _]) dX1_init_95 rfl (Nat.le_of_ble_eq_true rfl) rfl rfl ?_
        refine jd_goto (tgt := 72) dX1_init_98 (by decide) ?_
        refine jd_iload_n dX1_init_72 rfl ?_
        refine jd_bipush (v := 6) dX1_init_73 (by decide) ?_
        refine jd_ncmp_ge (a := 3) (b := 6) (tgt := 101) dX1_init_75 (by decide) (by omega) (by omega) (fun z46 => ?_) (fun z47 => ?_)
        · omega
        · refine jd_aload_n dX1_init_78 rfl ?_
          refine jd_get in_X1 hf45_a 0 q283 dX1_init_79 rfl (Nat.le_of_ble_eq_true rfl) rfl ?_
          refine jd_new (fs := [.int (0), .int (0), .int (0), .int (0), .int (0), .int (0)]) in_X3 tyX3_ok q175 q176 q85 dX1_init_82 2 rfl rfl (by omega) (by omega) (fun d3 hd3 => ?_)
          have ne_l2_d3 : ((0, l2) : jd_Id) ≠ (0, d3) := fun z => by have := hf45_l2; rw [z, hd3] at this; cases this
          have ne_l3_d3 : ((0, l3) : jd_Id) ≠ (0, d3) := fun z => by have := hf45_l3; rw [z, hd3] at this; cases this
          have ne_l4_d3 : ((0, l4) : jd_Id) ≠ (0, d3) := fun z => by have := hf45_l4; rw [z, hd3] at this; cases this
          have ne_l5_d3 : ((0, l5) : jd_Id) ≠ (0, d3) := fun z => by have := hf45_l5; rw [z, hd3] at this; cases this
          have ne_rw__d3 : ((0, rw_) : jd_Id) ≠ (0, d3) := fun z => by have := hf45_rw_; rw [z, hd3] at this; cases this
          have ne_a_d3 : ((0, a) : jd_Id) ≠ (0, d3) := fun z => by have := hf45_a; rw [z, hd3] at this; cases this
          have ne_d0_d3 : ((0, d0) : jd_Id) ≠ (0, d3) := fun z => by have := hf45_d0; rw [z, hd3] at this; cases this
          have ne_d1_d3 : ((0, d1) : jd_Id) ≠ (0, d3) := fun z => by have := hf45_d1; rw [z, hd3] at this; cases this
          have ne_d2_d3 : ((0, d2) : jd_Id) ≠ (0, d3) := fun z => by have := hf45_d2; rw [z, hd3] at this; cases this
          have ne_l1_d3 : ((0, l1) : jd_Id) ≠ (0, d3) := fun z => by have := hs45; rw [z, hd3] at this; cases this
          refine jd_updG (fun h48 hs48 ho48 => ?_)
          have hf48_l2 := (ho48 _ ne_l2_d3).trans hf45_l2
          have hf48_l3 := (ho48 _ ne_l3_d3).trans hf45_l3
          have hf48_l4 := (ho48 _ ne_l4_d3).trans hf45_l4
          have hf48_l5 := (ho48 _ ne_l5_d3).trans hf45_l5
          have hf48_rw_ := (ho48 _ ne_rw__d3).trans hf45_rw_
          have hf48_a := (ho48 _ ne_a_d3).trans hf45_a
          have hf48_d0 := (ho48 _ ne_d0_d3).trans hf45_d0
          have hf48_d1 := (ho48 _ ne_d1_d3).trans hf45_d1
          have hf48_d2 := (ho48 _ ne_d2_d3).trans hf45_d2
          have hf48_l1 := (ho48 _ ne_l1_d3).trans hs45
          refine jd_dup dX1_init_85 rfl ?_
          refine jd_callN (As := []) (rest := [.ref (d3), .ref (l1)]) (ct_X3_init hs48) rfl rfl q177 q178 q85 q179 nX3_init dX1_init_86 rfl rfl (Nat.le_of_ble_eq_true rfl) ⟨(Nat.le_of_ble_eq_true rfl), (Nat.le_of_ble_eq_true rfl), by omega, by omega⟩ (fun rv48 hn48 hq48 => ?_) jd_nox
          obtain ⟨rfl, he48⟩ := hq48
          rw [he48]
          refine jd_updG (fun h50 hs50 ho50 => ?_)
          have hf50_l2 := (ho50 _ ne_l2_d3).trans hf48_l2
          have hf50_l3 := (ho50 _ ne_l3_d3).trans hf48_l3
          have hf50_l4 := (ho50 _ ne_l4_d3).trans hf48_l4
          have hf50_l5 := (ho50 _ ne_l5_d3).trans hf48_l5
          have hf50_rw_ := (ho50 _ ne_rw__d3).trans hf48_rw_
          have hf50_a := (ho50 _ ne_a_d3).trans hf48_a
          have hf50_d0 := (ho50 _ ne_d0_d3).trans hf48_d0
          have hf50_d1 := (ho50 _ ne_d1_d3).trans hf48_d1
          have hf50_d2 := (ho50 _ ne_d2_d3).trans hf48_d2
          have hf50_l1 := (ho50 _ ne_l1_d3).trans hf48_l1
          refine jd_callF (n := 1) (As := [.ref (d3)]) (rest := []) (ct_J2_add (n := 3) hf50_l1 (show 3 ≤ 600 by omega) (x := d3) (Cn := "Lullabygate$Land") q2010 (fun i hi => by rcases (by omega : i = 0 ∨ i = 1 ∨ i = 2) with rfl | rfl | rfl; exact (Or.inl ⟨(0, d0), _, 2, _, hf50_d0, rfl, rfl, rfl⟩); exact (Or.inl ⟨(0, d1), _, 2, _, hf50_d1, rfl, rfl, rfl⟩); exact (Or.inl ⟨(0, d2), _, 2, _, hf50_d2, rfl, rfl, rfl⟩)) (Or.inl ⟨(0, d3), _, 2, _, hs50, rfl, rfl, rfl⟩)) (jd_rv hf50_l1 15 rfl rfl) (ci := 15) rfl (List.mem_of_getElem? (i := 0) rfl) rfl q204 q208 q210 q83 q212 q206 q211 q209 q207 ⟨by decide, by decide, by decide +kernel⟩ dX1_init_89 rfl rfl (Nat.le_of_ble_eq_true rfl) ⟨(Nat.le_of_ble_eq_true rfl), (Nat.le_of_ble_eq_true rfl), by omega, by omega⟩ (fun rv50 hn50 hq50 => ?_) jd_nox
          obtain ⟨rfl, he50⟩ := hq50
          rw [he50]
          refine jd_updG (fun h52 hs52 ho52 => ?_)
          have hf52_l2 := (ho52 _ (Ne.symm ne_l1_l2)).trans hf50_l2
          have hf52_l3 := (ho52 _ (Ne.symm ne_l1_l3)).trans hf50_l3
          have hf52_l4 := (ho52 _ (Ne.symm ne_l1_l4)).trans hf50_l4
          have hf52_l5 := (ho52 _ (Ne.symm ne_l1_l5)).trans hf50_l5
          have hf52_rw_ := (ho52 _ (Ne.symm ne_l1_rw_)).trans hf50_rw_
          have hf52_a := (ho52 _ ne_a_l1).trans hf50_a
          have hf52_d0 := (ho52 _ (Ne.symm ne_l1_d0)).trans hf50_d0
          have hf52_d1 := (ho52 _ (Ne.symm ne_l1_d1)).trans hf50_d1
          have hf52_d2 := (ho52 _ (Ne.symm ne_l1_d2)).trans hf50_d2
          have hf52_d3 := (ho52 _ (Ne.symm ne_l1_d3)).trans hs50
          refine jd_pop dX1_init_94 rfl ?_
          refine jd_iincN (n := 1) (ls' := [_, _]) dX1_init_95 rfl (Nat.le_of_ble_eq_true rfl) rfl rfl ?_
          refine jd_goto (tgt := 72) dX1_init_98 (by decide) ?_
          refine jd_iload_n dX1_init_72 rfl ?_
          refine jd_bipush (v := 6) dX1_init_73 (by decide) ?_
          refine jd_ncmp_ge (a := 4) (b := 6) (tgt := 101) dX1_init_75 (by decide) (by omega) (by omega) (fun z53 => ?_) (fun z54 => ?_)
          · omega
          · refine jd_aload_n dX1_init_78 rfl ?_
            refine jd_get in_X1 hf52_a 0 q283 dX1_init_79 rfl (Nat.le_of_ble_eq_true rfl) rfl ?_
            refine jd_new (fs := [.int (0), .int (0), .int (0), .int (0), .int (0), .int (0)]) in_X3 tyX3_ok q175 q176 q85 dX1_init_82 2 rfl rfl (by omega) (by omega) (fun d4 hd4 => ?_)
            have ne_l2_d4 : ((0, l2) : jd_Id) ≠ (0, d4) := fun z => by have := hf52_l2; rw [z, hd4] at this; cases this
            have ne_l3_d4 : ((0, l3) : jd_Id) ≠ (0, d4) := fun z => by have := hf52_l3; rw [z, hd4] at this; cases this
            have ne_l4_d4 : ((0, l4) : jd_Id) ≠ (0, d4) := fun z => by have := hf52_l4; rw [z, hd4] at this; cases this
            have ne_l5_d4 : ((0, l5) : jd_Id) ≠ (0, d4) := fun z => by have := hf52_l5; rw [z, hd4] at this; cases this
            have ne_rw__d4 : ((0, rw_) : jd_Id) ≠ (0, d4) := fun z => by have := hf52_rw_; rw [z, hd4] at this; cases this
            have ne_a_d4 : ((0, a) : jd_Id) ≠ (0, d4) := fun z => by have := hf52_a; rw [z, hd4] at this; cases this
            have ne_d0_d4 : ((0, d0) : jd_Id) ≠ (0, d4) := fun z => by have := hf52_d0; rw [z, hd4] at this; cases this
            have ne_d1_d4 : ((0, d1) : jd_Id) ≠ (0, d4) := fun z => by have := hf52_d1; rw [z, hd4] at this; cases this
            have ne_d2_d4 : ((0, d2) : jd_Id) ≠ (0, d4) := fun z => by have := hf52_d2; rw [z, hd4] at this; cases this
            have ne_d3_d4 : ((0, d3) : jd_Id) ≠ (0, d4) := fun z => by have := hf52_d3; rw [z, hd4] at this; cases this
            have ne_l1_d4 : ((0, l1) : jd_Id) ≠ (0, d4) := fun z => by have := hs52; rw [z, hd4] at this; cases this
            refine jd_updG (fun h55 hs55 ho55 => ?_)
            have hf55_l2 := (ho55 _ ne_l2_d4).trans hf52_l2
            have hf55_l3 := (ho55 _ ne_l3_d4).trans hf52_l3
            have hf55_l4 := (ho55 _ ne_l4_d4).trans hf52_l4
            have hf55_l5 := (ho55 _ ne_l5_d4).trans hf52_l5
            have hf55_rw_ := (ho55 _ ne_rw__d4).trans hf52_rw_
            have hf55_a := (ho55 _ ne_a_d4).trans hf52_a
            have hf55_d0 := (ho55 _ ne_d0_d4).trans hf52_d0
            have hf55_d1 := (ho55 _ ne_d1_d4).trans hf52_d1
            have hf55_d2 := (ho55 _ ne_d2_d4).trans hf52_d2
            have hf55_d3 := (ho55 _ ne_d3_d4).trans hf52_d3
            have hf55_l1 := (ho55 _ ne_l1_d4).trans hs52
            refine jd_dup dX1_init_85 rfl ?_
            refine jd_callN (As := []) (rest := [.ref (d4), .ref (l1)]) (ct_X3_init hs55) rfl rfl q177 q178 q85 q179 nX3_init dX1_init_86 rfl rfl (Nat.le_of_ble_eq_true rfl) ⟨(Nat.le_of_ble_eq_true rfl), (Nat.le_of_ble_eq_true rfl), by omega, by omega⟩ (fun rv55 hn55 hq55 => ?_) jd_nox
            obtain ⟨rfl, he55⟩ := hq55
            rw [he55]
            refine jd_updG (fun h57 hs57 ho57 => ?_)
            have hf57_l2 := (ho57 _ ne_l2_d4).trans hf55_l2
            have hf57_l3 := (ho57 _ ne_l3_d4).trans hf55_l3
            have hf57_l4 := (ho57 _ ne_l4_d4).trans hf55_l4
            have hf57_l5 := (ho57 _ ne_l5_d4).trans hf55_l5
            have hf57_rw_ := (ho57 _ ne_rw__d4).trans hf55_rw_
            have hf57_a := (ho57 _ ne_a_d4).trans hf55_a
            have hf57_d0 := (ho57 _ ne_d0_d4).trans hf55_d0
            have hf57_d1 := (ho57 _ ne_d1_d4).trans hf55_d1
            have hf57_d2 := (ho57 _ ne_d2_d4).trans hf55_d2
            have hf57_d3 := (ho57 _ ne_d3_d4).trans hf55_d3
            have hf57_l1 := (ho57 _ ne_l1_d4).trans hf55_l1
            refine jd_callF (n := 1) (As := [.ref (d4)]) (rest := []) (ct_J2_add (n := 4) hf57_l1 (show 4 ≤ 600 by omega) (x := d4) (Cn := "Lullabygate$Land") q2010 (fun i hi => by rcases (by omega : i = 0 ∨ i = 1 ∨ i = 2 ∨ i = 3) with rfl | rfl | rfl | rfl; exact (Or.inl ⟨(0, d0), _, 2, _, hf57_d0, rfl, rfl, rfl⟩); exact (Or.inl ⟨(0, d1), _, 2, _, hf57_d1, rfl, rfl, rfl⟩); exact (Or.inl ⟨(0, d2), _, 2, _, hf57_d2, rfl, rfl, rfl⟩); exact (Or.inl ⟨(0, d3), _, 2, _, hf57_d3, rfl, rfl, rfl⟩)) (Or.inl ⟨(0, d4), _, 2, _, hs57, rfl, rfl, rfl⟩)) (jd_rv hf57_l1 15 rfl rfl) (ci := 15) rfl (List.mem_of_getElem? (i := 0) rfl) rfl q204 q208 q210 q83 q212 q206 q211 q209 q207 ⟨by decide, by decide, by decide +kernel⟩ dX1_init_89 rfl rfl (Nat.le_of_ble_eq_true rfl) ⟨(Nat.le_of_ble_eq_true rfl), (Nat.le_of_ble_eq_true rfl), by omega, by omega⟩ (fun rv57 hn57 hq57 => ?_) jd_nox
            obtain ⟨rfl, he57⟩ := hq57
            rw [he57]
            refine jd_updG (fun h59 hs59 ho59 => ?_)
            have hf59_l2 := (ho59 _ (Ne.symm ne_l1_l2)).trans hf57_l2
            have hf59_l3 := (ho59 _ (Ne.symm ne_l1_l3)).trans hf57_l3
            have hf59_l4 := (ho59 _ (Ne.symm ne_l1_l4)).trans hf57_l4
            have hf59_l5 := (ho59 _ (Ne.symm ne_l1_l5)).trans hf57_l5
            have hf59_rw_ := (ho59 _ (Ne.symm ne_l1_rw_)).trans hf57_rw_
            have hf59_a := (ho59 _ ne_a_l1).trans hf57_a
            have hf59_d0 := (ho59 _ (Ne.symm ne_l1_d0)).trans hf57_d0
            have hf59_d1 := (ho59 _ (Ne.symm ne_l1_d1)).trans hf57_d1
            have hf59_d2 := (ho59 _ (Ne.symm ne_l1_d2)).trans hf57_d2
            have hf59_d3 := (ho59 _ (Ne.symm ne_l1_d3)).trans hf57_d3
            have hf59_d4 := (ho59 _ (Ne.symm ne_l1_d4)).trans hs57
            refine jd_pop dX1_init_94 rfl ?_
            refine jd_iincN (n := 1) (ls' := [_, _]) dX1_init_95 rfl (Nat.le_of_ble_eq_true rfl) rfl rfl ?_
            refine jd_goto (tgt := 72) dX1_init_98 (by decide) ?_
            refine jd_iload_n dX1_init_72 rfl ?_
            refine jd_bipush (v := 6) dX1_init_73 (by decide) ?_
            refine jd_ncmp_ge (a := 5) (b := 6) (tgt := 101) dX1_init_75 (by decide) (by omega) (by omega) (fun z60 => ?_) (fun z61 => ?_)
            · omega
            · refine jd_aload_n dX1_init_78 rfl ?_
              refine jd_get in_X1 hf59_a 0 q283 dX1_init_79 rfl (Nat.le_of_ble_eq_true rfl) rfl ?_
              refine jd_new (fs := [.int (0), .int (0), .int (0), .int (0), .int (0), .int (0)]) in_X3 tyX3_ok q175 q176 q85 dX1_init_82 2 rfl rfl (by omega) (by omega) (fun d5 hd5 => ?_)
              have ne_l2_d5 : ((0, l2) : jd_Id) ≠ (0, d5) := fun z => by have := hf59_l2; rw [z, hd5] at this; cases this
              have ne_l3_d5 : ((0, l3) : jd_Id) ≠ (0, d5) := fun z => by have := hf59_l3; rw [z, hd5] at this; cases this
              have ne_l4_d5 : ((0, l4) : jd_Id) ≠ (0, d5) := fun z => by have := hf59_l4; rw [z, hd5] at this; cases this
              have ne_l5_d5 : ((0, l5) : jd_Id) ≠ (0, d5) := fun z => by have := hf59_l5; rw [z, hd5] at this; cases this
              have ne_rw__d5 : ((0, rw_) : jd_Id) ≠ (0, d5) := fun z => by have := hf59_rw_; rw [z, hd5] at this; cases this
              have ne_a_d5 : ((0, a) : jd_Id) ≠ (0, d5) := fun z => by have := hf59_a; rw [z, hd5] at this; cases this
              have ne_d0_d5 : ((0, d0) : jd_Id) ≠ (0, d5) := fun z => by have := hf59_d0; rw [z, hd5] at this; cases this
              have ne_d1_d5 : ((0, d1) : jd_Id) ≠ (0, d5) := fun z => by have := hf59_d1; rw [z, hd5] at this; cases this
              have ne_d2_d5 : ((0, d2) : jd_Id) ≠ (0, d5) := fun z => by have := hf59_d2; rw [z, hd5] at this; cases this
              have ne_d3_d5 : ((0, d3) : jd_Id) ≠ (0, d5) := fun z => by have := hf59_d3; rw [z, hd5] at this; cases this
              have ne_d4_d5 : ((0, d4) : jd_Id) ≠ (0, d5) := fun z => by have := hf59_d4; rw [z, hd5] at this; cases this
              have ne_l1_d5 : ((0, l1) : jd_Id) ≠ (0, d5) := fun z => by have := hs59; rw [z, hd5] at this; cases this
              refine jd_updG (fun h62 hs62 ho62 => ?_)
              have hf62_l2 := (ho62 _ ne_l2_d5).trans hf59_l2
              have hf62_l3 := (ho62 _ ne_l3_d5).trans hf59_l3
              have hf62_l4 := (ho62 _ ne_l4_d5).trans hf59_l4
              have hf62_l5 := (ho62 _ ne_l5_d5).trans hf59_l5
              have hf62_rw_ := (ho62 _ ne_rw__d5).trans hf59_rw_
              have hf62_a := (ho62 _ ne_a_d5).trans hf59_a
              have hf62_d0 := (ho62 _ ne_d0_d5).trans hf59_d0
              have hf62_d1 := (ho62 _ ne_d1_d5).trans hf59_d1
              have hf62_d2 := (ho62 _ ne_d2_d5).trans hf59_d2
              have hf62_d3 := (ho62 _ ne_d3_d5).trans hf59_d3
              have hf62_d4 := (ho62 _ ne_d4_d5).trans hf59_d4
              have hf62_l1 := (ho62 _ ne_l1_d5).trans hs59
              refine jd_dup dX1_init_85 rfl ?_
              refine jd_callN (As := []) (rest := [.ref (d5), .ref (l1)]) (ct_X3_init hs62) rfl rfl q177 q178 q85 q179 nX3_init dX1_init_86 rfl rfl (Nat.le_of_ble_eq_true rfl) ⟨(Nat.le_of_ble_eq_true rfl), (Nat.le_of_ble_eq_true rfl), by omega, by omega⟩ (fun rv62 hn62 hq62 => ?_) jd_nox
              obtain ⟨rfl, he62⟩ := hq62
              rw [he62]
              refine jd_updG (fun h64 hs64 ho64 => ?_)
              have hf64_l2 := (ho64 _ ne_l2_d5).trans hf62_l2
              have hf64_l3 := (ho64 _ ne_l3_d5).trans hf62_l3
              have hf64_l4 := (ho64 _ ne_l4_d5).trans hf62_l4
              have hf64_l5 := (ho64 _ ne_l5_d5).trans hf62_l5
              have hf64_rw_ := (ho64 _ ne_rw__d5).trans hf62_rw_
              have hf64_a := (ho64 _ ne_a_d5).trans hf62_a
              have hf64_d0 := (ho64 _ ne_d0_d5).trans hf62_d0
              have hf64_d1 := (ho64 _ ne_d1_d5).trans hf62_d1
              have hf64_d2 := (ho64 _ ne_d2_d5).trans hf62_d2
              have hf64_d3 := (ho64 _ ne_d3_d5).trans hf62_d3
              have hf64_d4 := (ho64 _ ne_d4_d5).trans hf62_d4
              have hf64_l1 := (ho64 _ ne_l1_d5).trans hf62_l1
              refine jd_callF (n := 1) (As := [.ref (d5)]) (rest := []) (ct_J2_add (n := 5) hf64_l1 (show 5 ≤ 600 by omega) (x := d5) (Cn := "Lullabygate$Land") q2010 (fun i hi => by rcases (by omega : i = 0 ∨ i = 1 ∨ i = 2 ∨ i = 3 ∨ i = 4) with rfl | rfl | rfl | rfl | rfl; exact (Or.inl ⟨(0, d0), _, 2, _, hf64_d0, rfl, rfl, rfl⟩); exact (Or.inl ⟨(0, d1), _, 2, _, hf64_d1, rfl, rfl, rfl⟩); exact (Or.inl ⟨(0, d2), _, 2, _, hf64_d2, rfl, rfl, rfl⟩); exact (Or.inl ⟨(0, d3), _, 2, _, hf64_d3, rfl, rfl, rfl⟩); exact (Or.inl ⟨(0, d4), _, 2, _, hf64_d4, rfl, rfl, rfl⟩)) (Or.inl ⟨(0, d5), _, 2, _, hs64, rfl, rfl, rfl⟩)) (jd_rv hf64_l1 15 rfl rfl) (ci := 15) rfl (List.mem_of_getElem? (i := 0) rfl) rfl q204 q208 q210 q83 q212 q206 q211 q209 q207 ⟨by decide, by decide, by decide +kernel⟩ dX1_init_89 rfl rfl (Nat.le_of_ble_eq_true rfl) ⟨(Nat.le_of_ble_eq_true rfl), (Nat.le_of_ble_eq_true rfl), by omega, by omega⟩ (fun rv64 hn64 hq64 => ?_) jd_nox
              obtain ⟨rfl, he64⟩ := hq64
              rw [he64]
              refine jd_updG (fun h66 hs66 ho66 => ?_)
              have hf66_l2 := (ho66 _ (Ne.symm ne_l1_l2)).trans hf64_l2
              have hf66_l3 := (ho66 _ (Ne.symm ne_l1_l3)).trans hf64_l3
              have hf66_l4 := (ho66 _ (Ne.symm ne_l1_l4)).trans hf64_l4
              have hf66_l5 := (ho66 _ (Ne.symm ne_l1_l5)).trans hf64_l5
              have hf66_rw_ := (ho66 _ (Ne.symm ne_l1_rw_)).trans hf64_rw_
              have hf66_a := (ho66 _ ne_a_l1).trans hf64_a
              have hf66_d0 := (ho66 _ (Ne.symm ne_l1_d0)).trans hf64_d0
              have hf66_d1 := (ho66 _ (Ne.symm ne_l1_d1)).trans hf64_d1
              have hf66_d2 := (ho66 _ (Ne.symm ne_l1_d2)).trans hf64_d2
              have hf66_d3 := (ho66 _ (Ne.symm ne_l1_d3)).trans hf64_d3
              have hf66_d4 := (ho66 _ (Ne.symm ne_l1_d4)).trans hf64_d4
              have hf66_d5 := (ho66 _ (Ne.symm ne_l1_d5)).trans hs64
              refine jd_pop dX1_init_94 rfl ?_
              refine jd_iincN (n := 1) (ls' := [_, _]) dX1_init_95 rfl (Nat.le_of_ble_eq_true rfl) rfl rfl ?_
              refine jd_goto (tgt := 72) dX1_init_98 (by decide) ?_
              refine jd_iload_n dX1_init_72 rfl ?_
              refine jd_bipush (v := 6) dX1_init_73 (by decide) ?_
              refine jd_ncmp_ge (a := 6) (b := 6) (tgt := 101) dX1_init_75 (by decide) (by omega) (by omega) (fun z67 => ?_) (fun z68 => ?_)
              · have hff : ∀ j : jd_Id, 20 ≤ j.1 → h66 j = h j := fun j hj => ((ho66 j (ll_nek (by decide) hj)).trans ((ho64 j (ll_nek (by decide) hj)).trans ((ho62 j (ll_nek (by decide) hj)).trans ((ho59 j (ll_nek (by decide) hj)).trans ((ho57 j (ll_nek (by decide) hj)).trans ((ho55 j (ll_nek (by decide) hj)).trans ((ho52 j (ll_nek (by decide) hj)).trans ((ho50 j (ll_nek (by decide) hj)).trans ((ho48 j (ll_nek (by decide) hj)).trans ((ho45 j (ll_nek (by decide) hj)).trans ((ho43 j (ll_nek (by decide) hj)).trans ((ho41 j (ll_nek (by decide) hj)).trans ((ho38 j (ll_nek (by decide) hj)).trans ((ho36 j (ll_nek (by decide) hj)).trans ((ho34 j (ll_nek (by decide) hj)).trans ((ho31 j (ll_nek (by decide) hj)).trans ((ho29 j (ll_nek (by decide) hj)).trans ((ho27 j (ll_nek (by decide) hj)).trans ((ho24 j (ll_nek (by decide) hj)).trans ((ho23 j (ll_nek (by decide) hj)).trans ((ho21 j (ll_nek (by decide) hj)).trans ((ho20 j (ll_nek (by decide) hj)).trans ((ho19 j (ll_nek (by decide) hj)).trans ((ho17 j (ll_nek (by decide) hj)).trans ((ho16 j (ll_nek (by decide) hj)).trans ((ho15 j (ll_nek (by decide) hj)).trans ((ho13 j (ll_nek (by decide) hj)).trans ((ho12 j (ll_nek (by decide) hj)).trans ((ho11 j (ll_nek (by decide) hj)).trans ((ho9 j (ll_nek (by decide) hj)).trans ((ho8 j (ll_nek (by decide) hj)).trans ((ho7 j (ll_nek (by decide) hj)).trans ((ho5 j (ll_nek (by decide) hj)).trans ((ho4 j (ll_nek (by decide) hj)).trans ((ho3 j (ll_nek (by decide) hj)).trans (ho1 j (ll_nek (by decide) hj)))))))))))))))))))))))))))))))))))))
                refine jd_place (fun k => decide (20 ≤ k)) [a, rw_, l1, l2, l3, l4, l5, d0, d1, d2, d3, d4, d5] [(1, 0), (1, 1), (2, 0), (2, 1), (2, 2), (2, 3), (2, 4), (3, 0), (3, 1), (3, 2), (3, 3), (3, 4), (3, 5)] rfl rfl (by decide) ?_ (by decide) (fun h9 k1 k2 k3 => ?_)
                · exact List.nodup_cons.mpr ⟨fun hm => by simp only [List.mem_cons, List.not_mem_nil, or_false] at hm; rcases hm with e | e | e | e | e | e | e | e | e | e | e | e; exact ne_a_rw_ (by rw [e]); exact ne_a_l1 (by rw [e]); exact ne_a_l2 (by rw [e]); exact ne_a_l3 (by rw [e]); exact ne_a_l4 (by rw [e]); exact ne_a_l5 (by rw [e]); exact ne_a_d0 (by rw [e]); exact ne_a_d1 (by rw [e]); exact ne_a_d2 (by rw [e]); exact ne_a_d3 (by rw [e]); exact ne_a_d4 (by rw [e]); exact ne_a_d5 (by rw [e]), List.nodup_cons.mpr ⟨fun hm => by simp only [List.mem_cons, List.not_mem_nil, or_false] at hm; rcases hm with e | e | e | e | e | e | e | e | e | e | e; exact (Ne.symm ne_l1_rw_) (by rw [e]); exact (Ne.symm ne_l2_rw_) (by rw [e]); exact (Ne.symm ne_l3_rw_) (by rw [e]); exact (Ne.symm ne_l4_rw_) (by rw [e]); exact (Ne.symm ne_l5_rw_) (by rw [e]); exact ne_rw__d0 (by rw [e]); exact ne_rw__d1 (by rw [e]); exact ne_rw__d2 (by rw [e]); exact ne_rw__d3 (by rw [e]); exact ne_rw__d4 (by rw [e]); exact ne_rw__d5 (by rw [e]), List.nodup_cons.mpr ⟨fun hm => by simp only [List.mem_cons, List.not_mem_nil, or_false] at hm; rcases hm with e | e | e | e | e | e | e | e | e | e; exact ne_l1_l2 (by rw [e]); exact ne_l1_l3 (by rw [e]); exact ne_l1_l4 (by rw [e]); exact ne_l1_l5 (by rw [e]); exact ne_l1_d0 (by rw [e]); exact ne_l1_d1 (by rw [e]); exact ne_l1_d2 (by rw [e]); exact ne_l1_d3 (by rw [e]); exact ne_l1_d4 (by rw [e]); exact ne_l1_d5 (by rw [e]), List.nodup_cons.mpr ⟨fun hm => by simp only [List.mem_cons, List.not_mem_nil, or_false] at hm; rcases hm with e | e | e | e | e | e | e | e | e; exact ne_l2_l3 (by rw [e]); exact ne_l2_l4 (by rw [e]); exact ne_l2_l5 (by rw [e]); exact ne_l2_d0 (by rw [e]); exact ne_l2_d1 (by rw [e]); exact ne_l2_d2 (by rw [e]); exact ne_l2_d3 (by rw [e]); exact ne_l2_d4 (by rw [e]); exact ne_l2_d5 (by rw [e]), List.nodup_cons.mpr ⟨fun hm => by simp only [List.mem_cons, List.not_mem_nil, or_false] at hm; rcases hm with e | e | e | e | e | e | e | e; exact ne_l3_l4 (by rw [e]); exact ne_l3_l5 (by rw [e]); exact ne_l3_d0 (by rw [e]); exact ne_l3_d1 (by rw [e]); exact ne_l3_d2 (by rw [e]); exact ne_l3_d3 (by rw [e]); exact ne_l3_d4 (by rw [e]); exact ne_l3_d5 (by rw [e]), List.nodup_cons.mpr ⟨fun hm => by simp only [List.mem_cons, List.not_mem_nil, or_false] at hm; rcases hm with e | e | e | e | e | e | e; exact ne_l4_l5 (by rw [e]); exact ne_l4_d0 (by rw [e]); exact ne_l4_d1 (by rw [e]); exact ne_l4_d2 (by rw [e]); exact ne_l4_d3 (by rw [e]); exact ne_l4_d4 (by rw [e]); exact ne_l4_d5 (by rw [e]), List.nodup_cons.mpr ⟨fun hm => by simp only [List.mem_cons, List.not_mem_nil, or_false] at hm; rcases hm with e | e | e | e | e | e; exact ne_l5_d0 (by rw [e]); exact ne_l5_d1 (by rw [e]); exact ne_l5_d2 (by rw [e]); exact ne_l5_d3 (by rw [e]); exact ne_l5_d4 (by rw [e]); exact ne_l5_d5 (by rw [e]), List.nodup_cons.mpr ⟨fun hm => by simp only [List.mem_cons, List.not_mem_nil, or_false] at hm; rcases hm with e | e | e | e | e; exact ne_d0_d1 (by rw [e]); exact ne_d0_d2 (by rw [e]); exact ne_d0_d3 (by rw [e]); exact ne_d0_d4 (by rw [e]); exact ne_d0_d5 (by rw [e]), List.nodup_cons.mpr ⟨fun hm => by simp only [List.mem_cons, List.not_mem_nil, or_false] at hm; rcases hm with e | e | e | e; exact ne_d1_d2 (by rw [e]); exact ne_d1_d3 (by rw [e]); exact ne_d1_d4 (by rw [e]); exact ne_d1_d5 (by rw [e]), List.nodup_cons.mpr ⟨fun hm => by simp only [List.mem_cons, List.not_mem_nil, or_false] at hm; rcases hm with e | e | e; exact ne_d2_d3 (by rw [e]); exact ne_d2_d4 (by rw [e]); exact ne_d2_d5 (by rw [e]), List.nodup_cons.mpr ⟨fun hm => by simp only [List.mem_cons, List.not_mem_nil, or_false] at hm; rcases hm with e | e; exact ne_d3_d4 (by rw [e]); exact ne_d3_d5 (by rw [e]), List.nodup_cons.mpr ⟨fun hm => by simp only [List.mem_cons, List.not_mem_nil, or_false] at hm; have e := hm; exact ne_d4_d5 (by rw [e]), List.nodup_cons.mpr ⟨List.not_mem_nil, List.nodup_nil⟩⟩⟩⟩⟩⟩⟩⟩⟩⟩⟩⟩⟩
                have hnn : ∀ (f k : Nat), 4 ≤ f → f < 20 → h9 (f, k) = none := fun f k a b => k3 (f, k) (decide_eq_false (by show ¬ 20 ≤ f; omega)) (fun hm => by simp only [List.mem_cons, List.not_mem_nil, or_false, Prod.mk.injEq] at hm; omega)
                have hw0 : WC G (fun f j => if f = 0 then [a, rw_, l1, l2, l3, l4, l5].getD j 0 else if f = 1 then (va_up (va_up (va_up (va_up (va_up (va_up (fun _ => 0) 0 d0) 1 d1) 2 d2) 3 d3) 4 d4) 5 d5) j else 0) k_0 h9 := by
                  exact ⟨(k1 0 _ _ rfl rfl).trans hf66_a, (k1 1 _ _ rfl rfl).trans hf66_rw_, fun k hk => by rcases (by omega : k = 0 ∨ k = 1 ∨ k = 2 ∨ k = 3 ∨ k = 4 ∨ k = 5) with rfl | rfl | rfl | rfl | rfl | rfl; exact (k1 7 _ _ rfl rfl).trans hf66_d0; exact (k1 8 _ _ rfl rfl).trans hf66_d1; exact (k1 9 _ _ rfl rfl).trans hf66_d2; exact (k1 10 _ _ rfl rfl).trans hf66_d3; exact (k1 11 _ _ rfl rfl).trans hf66_d4; exact (k1 12 _ _ rfl rfl).trans hf66_d5, fun k hk => absurd hk (Nat.not_lt_zero k), fun k hk => absurd hk (Nat.not_lt_zero k), fun k hk => absurd hk (Nat.not_lt_zero k), ⟨_, (k1 2 _ _ rfl rfl).trans hs66⟩, ⟨_, (k1 3 _ _ rfl rfl).trans hf66_l2⟩, ⟨_, (k1 4 _ _ rfl rfl).trans hf66_l3⟩, ⟨_, (k1 5 _ _ rfl rfl).trans hf66_l4⟩, ⟨_, (k1 6 _ _ rfl rfl).trans hf66_l5⟩, fun k hk => absurd hk (Nat.not_lt_zero k), fun k hk => absurd hk (Nat.not_lt_zero k), fun k hk _ => absurd hk (Nat.not_lt_zero k), fun k hk _ _ => absurd hk (Nat.not_lt_zero k), fun k hk => absurd hk (Nat.not_lt_zero k), fun k => ⟨fun _ => ⟨hnn 4 k (by omega) (by omega), hnn 5 k (by omega) (by omega), hnn 6 k (by omega) (by omega)⟩, fun _ => hnn 7 k (by omega) (by omega), fun _ => hnn 10 k (by omega) (by omega)⟩⟩
                exact jd_vret dX1_init_101 rfl ⟨rfl, _, rfl, hw0, fun j hj => (k2 j (decide_eq_true hj)).trans (hff j hj)⟩
              · omega
