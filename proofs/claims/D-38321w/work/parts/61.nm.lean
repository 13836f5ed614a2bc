/-! the model: yawns, second (printed by mk_c.py) -/
set_option maxRecDepth 20000 in
set_option maxHeartbeats 2000000 in
theorem ct_X4_comeIn_t {G : jd_G} {γ : ll_B} {κ : ll_K} {μ : ll_U} {h : jd_H} (hw : WM G γ κ μ h) (hI : ll_I κ) (s l : Nat) (D : Int32) (hs : s < nS κ) (hl : l < 6) (hDμ : μ.1 2 s = D) (hD : ∀ p, p < nP κ → ll_has D p → pHead κ p = some s) : jd_Ct G mX4_comeIn 3 (0) (0) [.ref (γ 0 0), .int (nI s), .int (nI l), .int (1)] h (fun (r : Option Value) (h2 : jd_H) => r = some (.int (worthOf κ (allowed κ D l))) ∧ WM G γ (k_decl κ (sLand κ s) (allowed κ D l) D 100 l (nP κ)) μ h2 ∧ ∀ j : jd_Id, (j.1 < 20 ∨ 40 ≤ j.1) → h2 j = h j) jd_no := by
  obtain ⟨⟨hG8, hS12, hP24, hH40, hN99, hH24⟩, hIg, hIs, hIp, hIh, hIl, hIq⟩ := id hI
  obtain ⟨mcG, hlG⟩ := w_mgates hw
  obtain ⟨mcS, hlS⟩ := w_msleepers hw
  obtain ⟨mcP, hlP⟩ := w_mparts hw
  obtain ⟨mcH, hlH⟩ := w_mhidings hw
  have hsX1 := (hIs s hs).1
  refine jd_ct (ls := [some (.ref (γ 0 0)), some (.int (nI s)), some (.int (nI l)), some (.int (1)), none, none, none, none, none, none, none]) rfl rfl (by decide) (Nat.le_of_ble_eq_true rfl) rfl ?_
  refine jd_aload_n dX4_comeIn_0 rfl ?_
  refine jd_get in_X4 (w_mthis hw) 8 q1474 dX4_comeIn_1 rfl (Nat.le_of_ble_eq_true rfl) rfl ?_
  refine jd_iload_n dX4_comeIn_4 rfl ?_
  refine jd_pV (As := [.int (nI s)]) (rest := []) (ct_J2_get hlS (show nS κ ≤ 900 by omega) (k := s) (show s < nS κ by omega)) (jd_rv hlS 15 rfl rfl) rfl q1584 q325 q2001 q83 q327 nJ2_get dX4_comeIn_5 rfl rfl rfl (Nat.le_of_ble_eq_true rfl) ⟨(Nat.le_of_ble_eq_true rfl), (Nat.le_of_ble_eq_true rfl)⟩ ?_
  refine jd_castS (jd_rv ((w_msleeper hw) s (show s < nS κ by omega)) 12 rfl rfl) (ci := 12) rfl q1593 dX4_comeIn_8 ?_
  refine jd_astore (ls' := [_, _, _, _, _, _, _, _, _, _, _]) dX4_comeIn_11 (Nat.le_of_ble_eq_true rfl) rfl rfl ?_
  refine jd_aload_n dX4_comeIn_13 rfl ?_
  refine jd_get in_X4 (w_mthis hw) 6 q1472 dX4_comeIn_14 rfl (Nat.le_of_ble_eq_true rfl) rfl ?_
  refine jd_iload_n dX4_comeIn_17 rfl ?_
  refine jd_aald (y := γ 1 l) (w_mlands hw) dX4_comeIn_18 5 rfl (vp_in_nI (by omega) (by omega)) (by rw [nI_clamp (by omega)]) ?_
  refine jd_astore (ls' := [_, _, _, _, _, _, _, _, _, _, _]) dX4_comeIn_19 (Nat.le_of_ble_eq_true rfl) rfl rfl ?_
  refine jd_aload dX4_comeIn_21 rfl ?_
  refine jd_getN in_X5 ((w_mland hw) l (show l < 6 by omega)) 3 q1450 dX4_comeIn_23 rfl (Nat.le_of_ble_eq_true rfl) rfl ?_
  refine jd_istore (ls' := [_, _, _, _, _, _, _, _, _, _, _]) dX4_comeIn_26 (Nat.le_of_ble_eq_true rfl) rfl rfl ?_
  refine jd_iconst (v := 0) dX4_comeIn_28 (by decide) ?_
  refine jd_istore (ls' := [_, _, _, _, _, _, _, _, _, _, _]) dX4_comeIn_29 (Nat.le_of_ble_eq_true rfl) rfl rfl ?_
  refine jd_iconst (v := 0) dX4_comeIn_31 (by decide) ?_
  refine jd_istore (ls' := [_, _, _, _, _, _, _, _, _, _, _]) dX4_comeIn_32 (Nat.le_of_ble_eq_true rfl) rfl rfl ?_
  have lp34_1 : ∀ (j : Nat) (k : Nat) (hk0 : k + j = nP κ) (hh : jd_H) (hw2 : WM G γ (k_cin κ (sLand κ s) (allowed κ D l) D k) μ hh) (hf2 : ∀ j : jd_Id, (j.1 < 20 ∨ 40 ≤ j.1) → hh j = h j), jd_W G mX4_comeIn 3 (0) (0) 34 [some (.ref (γ 0 0)), some (.int (nI s)), some (.int (nI l)), some (.int (1)), some (.ref (γ 5 s)), some (.ref (γ 1 l)), some (.int ((ll_al κ (D) (lQuo κ l) (lNight κ l) k).1)), some (.int ((ll_sum (fun p => if alIn κ (D) (lQuo κ l) (lNight κ l) p then pWorth κ p else 0) k))), some (.int (nI k)), none, none] [] hh (fun (r : Option Value) (h2 : jd_H) => r = some (.int (worthOf κ (allowed κ D l))) ∧ WM G γ (k_decl κ (sLand κ s) (allowed κ D l) D 100 l (nP κ)) μ h2 ∧ ∀ j : jd_Id, (j.1 < 20 ∨ 40 ≤ j.1) → h2 j = h j) jd_no := by
    intro j
    induction j with
    | zero =>
      intro k hk0 hh hw2 hf2
      obtain rfl : k = nP κ := by omega
      refine jd_iload dX4_comeIn_34 rfl ?_
      refine jd_aload_n dX4_comeIn_36 rfl ?_
      refine jd_get in_X4 (w_mthis hw2) 9 q1475 dX4_comeIn_37 rfl (Nat.le_of_ble_eq_true rfl) rfl ?_
      obtain ⟨mcl2, hl2_⟩ := w_mparts hw2
      refine jd_pV (As := []) (rest := [.int (nI (nP κ))]) (ct_J2_size hl2_ (show nP κ ≤ 900 by omega)) (jd_rv hl2_ 15 rfl rfl) rfl q1533 q344 q1999 q83 q346 nJ2_size dX4_comeIn_40 rfl rfl rfl (Nat.le_of_ble_eq_true rfl) ⟨(Nat.le_of_ble_eq_true rfl), (Nat.le_of_ble_eq_true rfl)⟩ ?_
      refine jd_ncmp_ge (a := nP κ) (b := nP κ) (tgt := 199) dX4_comeIn_43 (by decide) (by omega) (by omega) (fun z3 => ?_) (fun z4 => ?_)
      · refine jd_iload_n dX4_comeIn_199 rfl ?_
        refine jd_nif_eq (a := 1) (tgt := 210) dX4_comeIn_200 (by decide) (by omega) (fun z5 => ?_) (fun z6 => ?_)
        · omega
        · refine jd_aload dX4_comeIn_203 rfl ?_
          refine jd_iload dX4_comeIn_205 rfl ?_
          refine jd_putN (fs' := [_, _, _, _, _, _]) in_X5 tyX5_ok nmX5 ((w_mland hw2) l (show l < 6 by omega)) 3 q1450 dX4_comeIn_207 rfl (Nat.le_of_ble_eq_true rfl) rfl rfl rfl (Nat.le_of_ble_eq_true rfl) rfl ?_
          refine jd_updG (fun h7 hs7 ho7 => ?_)
          have hw7 := m_lNight hw2 (k := l) (show l < 6 by omega) (v := (ll_al κ (D) (lQuo κ l) (lNight κ l) (nP κ)).1) hs7 ho7
          refine jd_iload dX4_comeIn_210 rfl ?_
          exact jd_iret dX4_comeIn_212 rfl ⟨congrArg (fun x => some (Value.int x)) (al_worth hP24), by rw [← cin_end hP24 (all100 (hIl l hl).2.1.2)]; exact hw7, (fun j hj => ((ho7 j (ll_nel (by decide) hj)).trans (hf2 j hj)))⟩
      · omega
    | succ j ih34 =>
      intro k hk0 hh hw2 hf2
      have hat := at_bd hI (p := k) (by omega)
      refine jd_iload dX4_comeIn_34 rfl ?_
      refine jd_aload_n dX4_comeIn_36 rfl ?_
      refine jd_get in_X4 (w_mthis hw2) 9 q1475 dX4_comeIn_37 rfl (Nat.le_of_ble_eq_true rfl) rfl ?_
      obtain ⟨mcl8, hl8_⟩ := w_mparts hw2
      refine jd_pV (As := []) (rest := [.int (nI k)]) (ct_J2_size hl8_ (show nP κ ≤ 900 by omega)) (jd_rv hl8_ 15 rfl rfl) rfl q1533 q344 q1999 q83 q346 nJ2_size dX4_comeIn_40 rfl rfl rfl (Nat.le_of_ble_eq_true rfl) ⟨(Nat.le_of_ble_eq_true rfl), (Nat.le_of_ble_eq_true rfl)⟩ ?_
      refine jd_ncmp_ge (a := k) (b := nP κ) (tgt := 199) dX4_comeIn_43 (by decide) (by omega) (by omega) (fun z9 => ?_) (fun z10 => ?_)
      · omega
      · refine jd_aload_n dX4_comeIn_46 rfl ?_
        refine jd_get in_X4 (w_mthis hw2) 9 q1475 dX4_comeIn_47 rfl (Nat.le_of_ble_eq_true rfl) rfl ?_
        refine jd_iload dX4_comeIn_50 rfl ?_
        refine jd_pV (As := [.int (nI k)]) (rest := []) (ct_J2_get hl8_ (show nP κ ≤ 900 by omega) (k := k) (show k < nP κ by omega)) (jd_rv hl8_ 15 rfl rfl) rfl q1584 q325 q2001 q83 q327 nJ2_get dX4_comeIn_52 rfl rfl rfl (Nat.le_of_ble_eq_true rfl) ⟨(Nat.le_of_ble_eq_true rfl), (Nat.le_of_ble_eq_true rfl)⟩ ?_
        refine jd_castS (jd_rv ((w_mpart hw2) k (show k < nP κ by omega)) 13 rfl rfl) (ci := 13) rfl q1638 dX4_comeIn_55 ?_
        refine jd_astore (ls' := [_, _, _, _, _, _, _, _, _, _, _]) dX4_comeIn_58 (Nat.le_of_ble_eq_true rfl) rfl rfl ?_
        refine jd_aload dX4_comeIn_60 rfl ?_
        refine jd_getN in_X12 ((w_mpart hw2) k (show k < nP κ by omega)) 4 q1649 dX4_comeIn_62 rfl (Nat.le_of_ble_eq_true rfl) rfl ?_
        refine jd_top (w := .int (nI ((pAt κ k)))) (congrArg Value.int (congrArg nI cin_at)) ?_
        refine jd_iload_n dX4_comeIn_65 rfl ?_
        refine jd_ncmp_ne (a := (pAt κ k)) (b := s) (tgt := 193) dX4_comeIn_66 (by decide) (by omega) (by omega) (fun z11 => ?_) (fun z12 => ?_)
        · have hbit : ¬ ll_has D k := fun w => z11 ((at_head hI (by omega) (by omega)).mpr (hD k (by omega) w))
          refine jd_iincN (n := 1) (ls' := [_, _, _, _, _, _, _, _, _, _, _]) dX4_comeIn_193 rfl (Nat.le_of_ble_eq_true rfl) rfl rfl ?_
          refine jd_goto (tgt := 34) dX4_comeIn_196 (by decide) ?_
          have hw3 : WM G γ (k_cin κ (sLand κ s) (allowed κ D l) D (k + 1)) μ hh := by rw [← cin_no (al_sub hP24 (by omega) hbit) hbit]; exact hw2
          refine jd_lsub [some (.ref (γ 0 0)), some (.int (nI s)), some (.int (nI l)), some (.int (1)), some (.ref (γ 5 s)), some (.ref (γ 1 l)), some (.int ((ll_al κ (D) (lQuo κ l) (lNight κ l) (k + 1)).1)), some (.int ((ll_sum (fun p => if alIn κ (D) (lQuo κ l) (lNight κ l) p then pWorth κ p else 0) (k + 1)))), some (.int (nI (k + 1))), none, none] ⟨rfl, rfl, rfl, rfl, rfl, rfl, (congrArg (fun x => some (Value.int x)) (al_n hbit).1), (congrArg (fun x => some (Value.int x)) (al_n hbit).2), rfl, trivial⟩ ?_
          exact ih34 (k + 1) (by omega) hh hw3 (fun j hj => (hf2 j hj))
        · refine jd_aload dX4_comeIn_69 rfl ?_
          refine jd_getN in_X10 ((w_msleeper hw2) s (show s < nS κ by omega)) 5 q1605 dX4_comeIn_71 rfl (Nat.le_of_ble_eq_true rfl) rfl ?_
          refine jd_top (w := .int (D)) (congrArg Value.int (hDμ)) ?_
          refine jd_iload dX4_comeIn_74 rfl ?_
          refine jd_ishr dX4_comeIn_76 ?_
          refine jd_iconst (v := 1) dX4_comeIn_77 (by decide) ?_
          refine jd_iand dX4_comeIn_78 ?_
          refine jd_if_ne (tgt := 85) dX4_comeIn_79 (by decide) (fun z13 => ?_) (fun z14 => ?_)
          · have hbit := has_t (x := D) (by omega) z13
            refine jd_aload dX4_comeIn_85 rfl ?_
            refine jd_pV (As := []) (rest := []) (ct_X12_isNightmare ((w_mpart hw2) k (show k < nP κ by omega))) (jd_rv ((w_mpart hw2) k (show k < nP κ by omega)) 13 rfl rfl) rfl q1793 q1794 q1795 q112 q1796 nX12_isNightmare dX4_comeIn_87 rfl rfl rfl (Nat.le_of_ble_eq_true rfl) ⟨(Nat.le_of_ble_eq_true rfl), (Nat.le_of_ble_eq_true rfl)⟩ ?_
            refine jd_mg1 108 (.int (jd_b ((((¬ (((pDread (k_cin κ (sLand κ s) (allowed κ D l) D k) k)) < 5))) ∧ (¬ ((ll_al κ (D) (lQuo κ l) (lNight κ l) k).1 < (lQuo (k_cin κ (sLand κ s) (allowed κ D l) D k) l))))))) (fun hj15 => ?_) ?_
            · refine jd_bif_eq (tgt := 107) dX4_comeIn_90 (by decide) (fun z16 => ?_) (fun z17 => ?_)
              · refine jd_iconst (v := 0) dX4_comeIn_107 (by decide) ?_
                exact jd_top (congrArg Value.int (jd_b0 (fun w => z16 w.1)).symm) hj15
              · refine jd_iload dX4_comeIn_93 rfl ?_
                refine jd_aload dX4_comeIn_95 rfl ?_
                refine jd_getN in_X5 ((w_mland hw2) l (show l < 6 by omega)) 2 q1449 dX4_comeIn_97 rfl (Nat.le_of_ble_eq_true rfl) rfl ?_
                refine jd_icmp_lt (tgt := 107) dX4_comeIn_100 (by decide) (fun z18 => ?_) (fun z19 => ?_)
                · refine jd_iconst (v := 0) dX4_comeIn_107 (by decide) ?_
                  exact jd_top (congrArg Value.int (jd_b0 (fun w => (fun w => w z18) w.2)).symm) hj15
                · refine jd_iconst (v := 1) dX4_comeIn_103 (by decide) ?_
                  refine jd_goto (tgt := 108) dX4_comeIn_104 (by decide) ?_
                  exact jd_top (congrArg Value.int (jd_b1 ⟨z17, z19⟩).symm) hj15
            · refine jd_istore (ls' := [_, _, _, _, _, _, _, _, _, _, _]) dX4_comeIn_108 (Nat.le_of_ble_eq_true rfl) rfl rfl ?_
              refine jd_iload dX4_comeIn_110 rfl ?_
              refine jd_aload dX4_comeIn_112 rfl ?_
              refine jd_pV (As := []) (rest := [.int ((ll_al κ (D) (lQuo κ l) (lNight κ l) k).1)]) (ct_X12_isNightmare ((w_mpart hw2) k (show k < nP κ by omega))) (jd_rv ((w_mpart hw2) k (show k < nP κ by omega)) 13 rfl rfl) rfl q1793 q1794 q1795 q112 q1796 nX12_isNightmare dX4_comeIn_114 rfl rfl rfl (Nat.le_of_ble_eq_true rfl) ⟨(Nat.le_of_ble_eq_true rfl), (Nat.le_of_ble_eq_true rfl)⟩ ?_
              refine jd_mg1 130 (.int (jd_b ((((¬ (((pDread (k_cin κ (sLand κ s) (allowed κ D l) D k) k)) < 5))) ∧ (¬ ((((¬ (((pDread (k_cin κ (sLand κ s) (allowed κ D l) D k) k)) < 5))) ∧ (¬ ((ll_al κ (D) (lQuo κ l) (lNight κ l) k).1 < (lQuo (k_cin κ (sLand κ s) (allowed κ D l) D k) l)))))))))) (fun hj20 => ?_) ?_
              · refine jd_bif_eq (tgt := 129) dX4_comeIn_117 (by decide) (fun z21 => ?_) (fun z22 => ?_)
                · refine jd_iconst (v := 0) dX4_comeIn_129 (by decide) ?_
                  exact jd_top (congrArg Value.int (jd_b0 (fun w => z21 w.1)).symm) hj20
                · refine jd_iload dX4_comeIn_120 rfl ?_
                  refine jd_bif_ne (tgt := 129) dX4_comeIn_122 (by decide) (fun z23 => ?_) (fun z24 => ?_)
                  · refine jd_iconst (v := 0) dX4_comeIn_129 (by decide) ?_
                    exact jd_top (congrArg Value.int (jd_b0 (fun w => (fun w => w z23) w.2)).symm) hj20
                  · refine jd_iconst (v := 1) dX4_comeIn_125 (by decide) ?_
                    refine jd_goto (tgt := 130) dX4_comeIn_126 (by decide) ?_
                    exact jd_top (congrArg Value.int (jd_b1 ⟨z22, z24⟩).symm) hj20
              · refine jd_iadd dX4_comeIn_130 ?_
                refine jd_istore (ls' := [_, _, _, _, _, _, _, _, _, _, _]) dX4_comeIn_131 (Nat.le_of_ble_eq_true rfl) rfl rfl ?_
                refine jd_iload dX4_comeIn_133 rfl ?_
                refine jd_iload dX4_comeIn_135 rfl ?_
                refine jd_mg1 149 (.int ((if (((¬ (((pDread (k_cin κ (sLand κ s) (allowed κ D l) D k) k)) < 5))) ∧ (¬ ((ll_al κ (D) (lQuo κ l) (lNight κ l) k).1 < (lQuo (k_cin κ (sLand κ s) (allowed κ D l) D k) l)))) then 0 else (pWorth (k_cin κ (sLand κ s) (allowed κ D l) D k) k)))) (fun hj25 => ?_) ?_
                · refine jd_bif_eq (tgt := 144) dX4_comeIn_137 (by decide) (fun z26 => ?_) (fun z27 => ?_)
                  · refine jd_aload dX4_comeIn_144 rfl ?_
                    refine jd_getN in_X12 ((w_mpart hw2) k (show k < nP κ by omega)) 1 q1645 dX4_comeIn_146 rfl (Nat.le_of_ble_eq_true rfl) rfl ?_
                    exact jd_top (congrArg Value.int (by rw [if_neg z26])) hj25
                  · refine jd_iconst (v := 0) dX4_comeIn_140 (by decide) ?_
                    refine jd_goto (tgt := 149) dX4_comeIn_141 (by decide) ?_
                    exact jd_top (congrArg Value.int (by rw [if_pos z27])) hj25
                · refine jd_iadd dX4_comeIn_149 ?_
                  refine jd_istore (ls' := [_, _, _, _, _, _, _, _, _, _, _]) dX4_comeIn_150 (Nat.le_of_ble_eq_true rfl) rfl rfl ?_
                  refine jd_iload_n dX4_comeIn_152 rfl ?_
                  refine jd_nif_eq (a := 1) (tgt := 174) dX4_comeIn_153 (by decide) (by omega) (fun z28 => ?_) (fun z29 => ?_)
                  · omega
                  · refine jd_iload dX4_comeIn_156 rfl ?_
                    refine jd_bif_eq (tgt := 174) dX4_comeIn_158 (by decide) (fun z30 => ?_) (fun z31 => ?_)
                    · refine jd_iload_n dX4_comeIn_174 rfl ?_
                      refine jd_nif_eq (a := 1) (tgt := 193) dX4_comeIn_175 (by decide) (by omega) (fun z32 => ?_) (fun z33 => ?_)
                      · omega
                      · refine jd_aload dX4_comeIn_178 rfl ?_
                        refine jd_iload dX4_comeIn_180 rfl ?_
                        refine jd_bif_eq (tgt := 189) dX4_comeIn_182 (by decide) (fun z34 => ?_) (fun z35 => ?_)
                        · refine jd_iconst (v := 1) dX4_comeIn_189 (by decide) ?_
                          refine jd_putN (fs' := [_, _, _, _, _, _]) in_X12 tyX12_ok nmX12 ((w_mpart hw2) k (show k < nP κ by omega)) 3 q1648 dX4_comeIn_190 rfl (Nat.le_of_ble_eq_true rfl) rfl rfl rfl (Nat.le_of_ble_eq_true rfl) rfl ?_
                          refine jd_updG (fun h36 hs36 ho36 => ?_)
                          have hw36 := m_pFate hw2 (k := k) (show k < nP κ by omega) (v := 1) hs36 ho36
                          refine jd_iincN (n := 1) (ls' := [_, _, _, _, _, _, _, _, _, _, _]) dX4_comeIn_193 rfl (Nat.le_of_ble_eq_true rfl) rfl rfl ?_
                          refine jd_goto (tgt := 34) dX4_comeIn_196 (by decide) ?_
                          have hw3 : WM G γ (k_cin κ (sLand κ s) (allowed κ D l) D (k + 1)) μ h36 := by rw [← cin_in (al_come hP24 (by omega) hbit z30)]; exact hw36
                          refine jd_lsub [some (.ref (γ 0 0)), some (.int (nI s)), some (.int (nI l)), some (.int (1)), some (.ref (γ 5 s)), some (.ref (γ 1 l)), some (.int ((ll_al κ (D) (lQuo κ l) (lNight κ l) (k + 1)).1)), some (.int ((ll_sum (fun p => if alIn κ (D) (lQuo κ l) (lNight κ l) p then pWorth κ p else 0) (k + 1)))), some (.int (nI (k + 1))), none, none] ⟨rfl, rfl, rfl, rfl, rfl, rfl, (congrArg (fun x => some (Value.int x)) (al_y1 hbit)), (congrArg (fun x => some (Value.int x)) (al_y2 hbit)), rfl, trivial⟩ ?_
                          exact ih34 (k + 1) (by omega) h36 hw3 (fun j hj => ((ho36 j (ll_nel (by decide) hj)).trans (hf2 j hj)))
                        · exact absurd z35 z30
                    · refine jd_aload dX4_comeIn_161 rfl ?_
                      refine jd_bipush (v := 100) dX4_comeIn_163 (by decide) ?_
                      refine jd_aload dX4_comeIn_165 rfl ?_
                      refine jd_getN in_X10 ((w_msleeper hw2) s (show s < nS κ by omega)) 0 q1599 dX4_comeIn_167 rfl (Nat.le_of_ble_eq_true rfl) rfl ?_
                      refine jd_top (w := .int (nI (sLand κ s))) (congrArg (fun x => Value.int (nI x)) (by simp [sLand, k_cin])) ?_
                      refine jd_iaddN (a := 100) (b := (sLand κ s)) dX4_comeIn_170 ?_
                      refine jd_putN (fs' := [_, _, _, _, _, _]) in_X12 tyX12_ok nmX12 ((w_mpart hw2) k (show k < nP κ by omega)) 4 q1649 dX4_comeIn_171 rfl (Nat.le_of_ble_eq_true rfl) rfl rfl rfl (Nat.le_of_ble_eq_true rfl) rfl ?_
                      refine jd_updG (fun h37 hs37 ho37 => ?_)
                      have hw37 := m_atS hw2 (k := k) (show k < nP κ by omega) (v := (sLand κ s)) hs37 ho37
                      refine jd_iload_n dX4_comeIn_174 rfl ?_
                      refine jd_nif_eq (a := 1) (tgt := 193) dX4_comeIn_175 (by decide) (by omega) (fun z38 => ?_) (fun z39 => ?_)
                      · omega
                      · refine jd_aload dX4_comeIn_178 rfl ?_
                        refine jd_iload dX4_comeIn_180 rfl ?_
                        refine jd_bif_eq (tgt := 189) dX4_comeIn_182 (by decide) (fun z40 => ?_) (fun z41 => ?_)
                        · exact absurd z31 z40
                        · refine jd_iconst (v := 5) dX4_comeIn_185 (by decide) ?_
                          refine jd_goto (tgt := 190) dX4_comeIn_186 (by decide) ?_
                          refine jd_putN (fs' := [_, _, _, _, _, _]) in_X12 tyX12_ok nmX12 ((w_mpart hw37) k (show k < nP κ by omega)) 3 q1648 dX4_comeIn_190 rfl (Nat.le_of_ble_eq_true rfl) rfl rfl rfl (Nat.le_of_ble_eq_true rfl) rfl ?_
                          refine jd_updG (fun h42 hs42 ho42 => ?_)
                          have hw42 := m_pFate hw37 (k := k) (show k < nP κ by omega) (v := 5) hs42 ho42
                          refine jd_iincN (n := 1) (ls' := [_, _, _, _, _, _, _, _, _, _, _]) dX4_comeIn_193 rfl (Nat.le_of_ble_eq_true rfl) rfl rfl ?_
                          refine jd_goto (tgt := 34) dX4_comeIn_196 (by decide) ?_
                          have hw3 : WM G γ (k_cin κ (sLand κ s) (allowed κ D l) D (k + 1)) μ h42 := by rw [← cin_out (al_back hP24 (by omega) hbit z31) hbit]; exact hw42
                          refine jd_lsub [some (.ref (γ 0 0)), some (.int (nI s)), some (.int (nI l)), some (.int (1)), some (.ref (γ 5 s)), some (.ref (γ 1 l)), some (.int ((ll_al κ (D) (lQuo κ l) (lNight κ l) (k + 1)).1)), some (.int ((ll_sum (fun p => if alIn κ (D) (lQuo κ l) (lNight κ l) p then pWorth κ p else 0) (k + 1)))), some (.int (nI (k + 1))), none, none] ⟨rfl, rfl, rfl, rfl, rfl, rfl, (congrArg (fun x => some (Value.int x)) (al_y1 hbit)), (congrArg (fun x => some (Value.int x)) (al_y2 hbit)), rfl, trivial⟩ ?_
                          exact ih34 (k + 1) (by omega) h42 hw3 (fun j hj => ((ho42 j (ll_nel (by decide) hj)).trans ((ho37 j (ll_nel (by decide) hj)).trans (hf2 j hj))))
          · have hbit := (has01 (x := D) (by omega)).mp z14
            refine jd_goto (tgt := 193) dX4_comeIn_82 (by decide) ?_
            refine jd_iincN (n := 1) (ls' := [_, _, _, _, _, _, _, _, _, _, _]) dX4_comeIn_193 rfl (Nat.le_of_ble_eq_true rfl) rfl rfl ?_
            refine jd_goto (tgt := 34) dX4_comeIn_196 (by decide) ?_
            have hw3 : WM G γ (k_cin κ (sLand κ s) (allowed κ D l) D (k + 1)) μ hh := by rw [← cin_no (al_sub hP24 (by omega) hbit) hbit]; exact hw2
            refine jd_lsub [some (.ref (γ 0 0)), some (.int (nI s)), some (.int (nI l)), some (.int (1)), some (.ref (γ 5 s)), some (.ref (γ 1 l)), some (.int ((ll_al κ (D) (lQuo κ l) (lNight κ l) (k + 1)).1)), some (.int ((ll_sum (fun p => if alIn κ (D) (lQuo κ l) (lNight κ l) p then pWorth κ p else 0) (k + 1)))), some (.int (nI (k + 1))), none, none] ⟨rfl, rfl, rfl, rfl, rfl, rfl, (congrArg (fun x => some (Value.int x)) (al_n hbit).1), (congrArg (fun x => some (Value.int x)) (al_n hbit).2), rfl, trivial⟩ ?_
            exact ih34 (k + 1) (by omega) hh hw3 (fun j hj => (hf2 j hj))
  refine jd_lsub [some (.ref (γ 0 0)), some (.int (nI s)), some (.int (nI l)), some (.int (1)), some (.ref (γ 5 s)), some (.ref (γ 1 l)), some (.int ((ll_al κ (D) (lQuo κ l) (lNight κ l) 0).1)), some (.int ((ll_sum (fun p => if alIn κ (D) (lQuo κ l) (lNight κ l) p then pWorth κ p else 0) 0))), some (.int (nI 0)), none, none] ⟨rfl, rfl, rfl, rfl, rfl, rfl, rfl, rfl, rfl, trivial⟩ ?_
  exact lp34_1 (nP κ) 0 (by omega) h (by rw [cin0]; exact hw) (fun _ _ => rfl)

set_option maxRecDepth 20000 in
set_option maxHeartbeats 2000000 in
theorem ct_X4_comeThrough {G : jd_G} {γ : ll_B} {κ : ll_K} {μ : ll_U} {h : jd_H} (hw : WM G γ κ μ h) (hI : ll_I κ) (s g : Nat) (D : Int32) (hs : s < nS κ) (hg : g < nG κ) (hDμ : μ.1 2 s = D) (hr : ¬ sRest κ s = 1) (hdec : ∀ p, p < nP κ → ll_has D p → pHead κ p = some s) : jd_Ct G mX4_comeThrough 12 (72) (14400) [.ref (γ 0 0), .int (nI s), .ref (γ 2 g)] h (fun (r : Option Value) (h2 : jd_H) => r = some (.int (caughtN κ s g D)) ∧ WM G γ (k_cross κ s g D) μ h2 ∧ ∀ j : jd_Id, (j.1 < 20 ∨ 40 ≤ j.1) → h2 j = h j) jd_no := by
  obtain ⟨⟨hG8, hS12, hP24, hH40, hN99, hH24⟩, hIg, hIs, hIp, hIh, hIl, hIq⟩ := id hI
  obtain ⟨mcG, hlG⟩ := w_mgates hw
  obtain ⟨mcS, hlS⟩ := w_msleepers hw
  obtain ⟨mcP, hlP⟩ := w_mparts hw
  obtain ⟨mcH, hlH⟩ := w_mhidings hw
  have hsX0 := (hIs s hs).1
  refine jd_ct (ls := [some (.ref (γ 0 0)), some (.int (nI s)), some (.ref (γ 2 g)), none, none, none, none, none, none, none]) rfl rfl (by decide) (Nat.le_of_ble_eq_true rfl) rfl ?_
  have w216 : ∀ (κ2 : ll_K) (hh0 : jd_H) (to : Nat) (cc : Int32) (hw2 : WM G γ κ2 μ hh0) (hI2 : ll_I κ2) (hs2 : s < nS κ2) (hr2 : ¬ sRest κ2 s = 1) (hdec2 : ∀ p, p < nP κ2 → ll_has D p → pHead κ2 p = some s) (hto : to < 6) (hQ : ∀ h2 : jd_H, WM G γ (ll_sp (ll_sn (k_declare κ2 s D to) 2 s to) s none) μ h2 → (∀ j : jd_Id, (j.1 < 20 ∨ 40 ≤ j.1) → h2 j = hh0 j) → (fun (r : Option Value) (h2 : jd_H) => r = some (.int (caughtN κ s g D)) ∧ WM G γ (k_cross κ s g D) μ h2 ∧ ∀ j : jd_Id, (j.1 < 20 ∨ 40 ≤ j.1) → h2 j = h j) (some (.int cc)) h2), jd_W G mX4_comeThrough 12 (0) (0) 216 [some (.ref (γ 0 0)), some (.int (nI s)), some (.ref (γ 2 g)), some (.ref (γ 5 s)), some (.int (nI to)), none, some (.int (cc)), none, none, none] [] hh0 (fun (r : Option Value) (h2 : jd_H) => r = some (.int (caughtN κ s g D)) ∧ WM G γ (k_cross κ s g D) μ h2 ∧ ∀ j : jd_Id, (j.1 < 20 ∨ 40 ≤ j.1) → h2 j = h j) jd_no := by
    intro κ2 hh0 to cc hw2 hI2 hs2 hr2 hdec2 hto hQ
    obtain ⟨⟨hG8, hS12, hP24, hH40, hN99, hH24⟩, hIg, hIs, hIp, hIh, hIl, hIq⟩ := id hI2
    have hsX1 := (hIs s hs2).1
    refine jd_aload_n dX4_comeThrough_216 rfl ?_
    refine jd_iload_n dX4_comeThrough_217 rfl ?_
    refine jd_iload dX4_comeThrough_218 rfl ?_
    refine jd_iconst (v := 1) dX4_comeThrough_220 (by decide) ?_
    refine jd_callV (As := [.int (nI s), .int (nI to), .int (1)]) (rest := []) (ct_X4_comeIn_t hw2 hI2 s to D (by omega) (by omega) hDμ hdec2) (jd_rv (w_mthis hw2) 9 rfl rfl) rfl q1789 q1791 qs61 q90 q1792 nX4_comeIn dX4_comeThrough_221 rfl rfl rfl (Nat.le_of_ble_eq_true rfl) ⟨(Nat.le_of_ble_eq_true rfl), (Nat.le_of_ble_eq_true rfl), by omega, by omega⟩ (fun rv0 hn0 hq0 => ?_) jd_nox
    obtain ⟨rfl, hw0_, hf0_⟩ := hq0
    have hI4 : ll_I (k_decl κ2 (sLand κ2 s) (allowed κ2 D to) D 100 to (nP κ2)) := I_decl hI2 hr2 hsX1 hdec2
    refine jd_istore (ls' := [_, _, _, _, _, _, _, _, _, _]) dX4_comeThrough_224 (Nat.le_of_ble_eq_true rfl) rfl rfl ?_
    refine jd_aload_n dX4_comeThrough_226 rfl ?_
    refine jd_get in_X4 (w_mthis hw0_) 6 q1472 dX4_comeThrough_227 rfl (Nat.le_of_ble_eq_true rfl) rfl ?_
    refine jd_iload dX4_comeThrough_230 rfl ?_
    refine jd_aald (y := γ 1 to) (w_mlands hw0_) dX4_comeThrough_232 5 rfl (vp_in_nI (by omega) (by omega)) (by rw [nI_clamp (by omega)]) ?_
    refine jd_dup dX4_comeThrough_233 rfl ?_
    refine jd_getN in_X5 ((w_mland hw0_) to (show to < 6 by omega)) 4 q1451 dX4_comeThrough_234 rfl (Nat.le_of_ble_eq_true rfl) rfl ?_
    refine jd_top (w := .int ((lDut κ2 to))) (congrArg Value.int (by simp [lDut, k_decl])) ?_
    refine jd_aload_n dX4_comeThrough_237 rfl ?_
    refine jd_iload dX4_comeThrough_238 rfl ?_
    refine jd_aload_n dX4_comeThrough_240 rfl ?_
    refine jd_get in_X4 (w_mthis hw0_) 6 q1472 dX4_comeThrough_241 rfl (Nat.le_of_ble_eq_true rfl) rfl ?_
    refine jd_iload dX4_comeThrough_244 rfl ?_
    refine jd_aald (y := γ 1 to) (w_mlands hw0_) dX4_comeThrough_246 5 rfl (vp_in_nI (by omega) (by omega)) (by rw [nI_clamp (by omega)]) ?_
    refine jd_pV (As := [.int ((worthOf κ2 (allowed κ2 D to))), .ref (γ 1 to)]) (rest := [.int ((lDut κ2 to)), .ref (γ 1 to)]) (ct_X4_duty hw0_ hI4 (worthOf κ2 (allowed κ2 D to)) (worth_bd hI2 _) to (by omega)) (jd_rv (w_mthis hw0_) 9 rfl rfl) rfl q1797 q1799 qs62 q90 q1800 nX4_duty dX4_comeThrough_247 rfl rfl rfl (Nat.le_of_ble_eq_true rfl) ⟨(Nat.le_of_ble_eq_true rfl), (Nat.le_of_ble_eq_true rfl)⟩ ?_
    refine jd_top (w := .int ((dutyOf κ2 to (worthOf κ2 (allowed κ2 D to))))) (congrArg Value.int (by simp [dutyOf, lAll, lRate, k_decl])) ?_
    refine jd_iadd dX4_comeThrough_250 ?_
    refine jd_putN (fs' := [_, _, _, _, _, _]) in_X5 tyX5_ok nmX5 ((w_mland hw0_) to (show to < 6 by omega)) 4 q1451 dX4_comeThrough_251 rfl (Nat.le_of_ble_eq_true rfl) rfl rfl rfl (Nat.le_of_ble_eq_true rfl) rfl ?_
    refine jd_updG (fun h2 hs2 ho2 => ?_)
    have hw2 := m_lDut hw0_ (k := to) (show to < 6 by omega) (v := ((lDut κ2 to) + (dutyOf κ2 to (worthOf κ2 (allowed κ2 D to))))) hs2 ho2
    refine jd_iconst (v := 0) dX4_comeThrough_254 (by decide) ?_
    refine jd_istore (ls' := [_, _, _, _, _, _, _, _, _, _]) dX4_comeThrough_255 (Nat.le_of_ble_eq_true rfl) rfl rfl ?_
    have lp257_3 : ∀ (j : Nat) (k : Nat) (hk0 : k + j = nP κ2) (hh : jd_H) (hw2 : WM G γ (k_fat (ll_sz (k_decl κ2 (sLand κ2 s) (allowed κ2 D to) D 100 to (nP κ2)) 4 to (lDut κ2 to + dutyOf κ2 to (worthOf κ2 (allowed κ2 D to)))) (allowed κ2 D to) (¬ lAll κ2 to < (worthOf κ2 (allowed κ2 D to))) k) μ hh) (hf2 : ∀ j : jd_Id, (j.1 < 20 ∨ 40 ≤ j.1) → hh j = hh0 j), jd_W G mX4_comeThrough 12 (0 - 0) (0 - 0) 257 [some (.ref (γ 0 0)), some (.int (nI s)), some (.ref (γ 2 g)), some (.ref (γ 5 s)), some (.int (nI to)), none, some (.int (cc)), some (.int ((worthOf κ2 (allowed κ2 D to)))), some (.int (nI k)), none] [] hh (fun (r : Option Value) (h2 : jd_H) => r = some (.int (caughtN κ s g D)) ∧ WM G γ (k_cross κ s g D) μ h2 ∧ ∀ j : jd_Id, (j.1 < 20 ∨ 40 ≤ j.1) → h2 j = h j) jd_no := by
      intro j
      induction j with
      | zero =>
        intro k hk0 hh hw2 hf2
        obtain rfl : k = nP κ2 := by omega
        refine jd_iload dX4_comeThrough_257 rfl ?_
        refine jd_aload_n dX4_comeThrough_259 rfl ?_
        refine jd_get in_X4 (w_mthis hw2) 9 q1475 dX4_comeThrough_260 rfl (Nat.le_of_ble_eq_true rfl) rfl ?_
        obtain ⟨mcl4, hl4_⟩ := w_mparts hw2
        refine jd_pV (As := []) (rest := [.int (nI (nP κ2))]) (ct_J2_size hl4_ (show nP κ2 ≤ 900 by omega)) (jd_rv hl4_ 15 rfl rfl) rfl q1533 q344 q1999 q83 q346 nJ2_size dX4_comeThrough_263 rfl rfl rfl (Nat.le_of_ble_eq_true rfl) ⟨(Nat.le_of_ble_eq_true rfl), (Nat.le_of_ble_eq_true rfl)⟩ ?_
        refine jd_ncmp_ge (a := nP κ2) (b := nP κ2) (tgt := 332) dX4_comeThrough_266 (by decide) (by omega) (by omega) (fun z5 => ?_) (fun z6 => ?_)
        · refine jd_aload_n dX4_comeThrough_332 rfl ?_
          refine jd_iload dX4_comeThrough_333 rfl ?_
          refine jd_putN (fs' := [_, _, _, _, _, _, _, _, _]) in_X10 tyX10_ok nmX10 ((w_msleeper hw2) s (show s < nS κ2 by omega)) 0 q1599 dX4_comeThrough_335 rfl (Nat.le_of_ble_eq_true rfl) rfl rfl rfl (Nat.le_of_ble_eq_true rfl) rfl ?_
          refine jd_updG (fun h7 hs7 ho7 => ?_)
          have hw7 := m_sLand hw2 (k := s) (show s < nS κ2 by omega) (v := to) hs7 ho7
          refine jd_aload_n dX4_comeThrough_338 rfl ?_
          refine jd_iconst (v := (-1)) dX4_comeThrough_339 (by decide) ?_
          refine jd_putN (fs' := [_, _, _, _, _, _, _, _, _]) in_X10 tyX10_ok nmX10 ((w_msleeper hw7) s (show s < nS κ2 by omega)) 8 q1610 dX4_comeThrough_340 rfl (Nat.le_of_ble_eq_true rfl) rfl rfl rfl (Nat.le_of_ble_eq_true rfl) rfl ?_
          refine jd_updG (fun h8 hs8 ho8 => ?_)
          have hw8 := m_verN hw7 (k := s) (show s < nS κ2 by omega)  hs8 ho8
          refine jd_iload dX4_comeThrough_343 rfl ?_
          exact jd_iret dX4_comeThrough_345 rfl (hQ _ (by rw [k_declare, ← fat_end (X := lDut κ2 to + dutyOf κ2 to (worthOf κ2 (allowed κ2 D to))) (all100 (hIl to hto).2.1.2)]; exact hw8) (fun j hj => ((ho8 j (ll_nel (by decide) hj)).trans ((ho7 j (ll_nel (by decide) hj)).trans (hf2 j hj)))))
        · omega
      | succ j ih257 =>
        intro k hk0 hh hw2 hf2
        have hat : pAt (k_fat (ll_sz (k_decl κ2 (sLand κ2 s) (allowed κ2 D to) D 100 to (nP κ2)) 4 to (lDut κ2 to + dutyOf κ2 to (worthOf κ2 (allowed κ2 D to)))) (allowed κ2 D to) (¬ lAll κ2 to < (worthOf κ2 (allowed κ2 D to))) k) k ≤ 999 := at_bd hI4 (p := k) (show k < nP κ2 by omega)
        refine jd_iload dX4_comeThrough_257 rfl ?_
        refine jd_aload_n dX4_comeThrough_259 rfl ?_
        refine jd_get in_X4 (w_mthis hw2) 9 q1475 dX4_comeThrough_260 rfl (Nat.le_of_ble_eq_true rfl) rfl ?_
        obtain ⟨mcl9, hl9_⟩ := w_mparts hw2
        refine jd_pV (As := []) (rest := [.int (nI k)]) (ct_J2_size hl9_ (show nP κ2 ≤ 900 by omega)) (jd_rv hl9_ 15 rfl rfl) rfl q1533 q344 q1999 q83 q346 nJ2_size dX4_comeThrough_263 rfl rfl rfl (Nat.le_of_ble_eq_true rfl) ⟨(Nat.le_of_ble_eq_true rfl), (Nat.le_of_ble_eq_true rfl)⟩ ?_
        refine jd_ncmp_ge (a := k) (b := nP κ2) (tgt := 332) dX4_comeThrough_266 (by decide) (by omega) (by omega) (fun z10 => ?_) (fun z11 => ?_)
        · omega
        · refine jd_aload_n dX4_comeThrough_269 rfl ?_
          refine jd_get in_X4 (w_mthis hw2) 9 q1475 dX4_comeThrough_270 rfl (Nat.le_of_ble_eq_true rfl) rfl ?_
          refine jd_iload dX4_comeThrough_273 rfl ?_
          refine jd_pV (As := [.int (nI k)]) (rest := []) (ct_J2_get hl9_ (show nP κ2 ≤ 900 by omega) (k := k) (show k < nP κ2 by omega)) (jd_rv hl9_ 15 rfl rfl) rfl q1584 q325 q2001 q83 q327 nJ2_get dX4_comeThrough_275 rfl rfl rfl (Nat.le_of_ble_eq_true rfl) ⟨(Nat.le_of_ble_eq_true rfl), (Nat.le_of_ble_eq_true rfl)⟩ ?_
          refine jd_castS (jd_rv ((w_mpart hw2) k (show k < nP κ2 by omega)) 13 rfl rfl) (ci := 13) rfl q1638 dX4_comeThrough_278 ?_
          refine jd_astore (ls' := [_, _, _, _, _, _, _, _, _, _]) dX4_comeThrough_281 (Nat.le_of_ble_eq_true rfl) rfl rfl ?_
          refine jd_aload dX4_comeThrough_283 rfl ?_
          refine jd_getN in_X12 ((w_mpart hw2) k (show k < nP κ2 by omega)) 4 q1649 dX4_comeThrough_285 rfl (Nat.le_of_ble_eq_true rfl) rfl ?_
          refine jd_iload_n dX4_comeThrough_288 rfl ?_
          refine jd_ncmp_ne (a := (pAt (k_fat (ll_sz (k_decl κ2 (sLand κ2 s) (allowed κ2 D to) D 100 to (nP κ2)) 4 to (lDut κ2 to + dutyOf κ2 to (worthOf κ2 (allowed κ2 D to)))) (allowed κ2 D to) (¬ lAll κ2 to < (worthOf κ2 (allowed κ2 D to))) k) k)) (b := s) (tgt := 326) dX4_comeThrough_289 (by decide) (by omega) (by omega) (fun z12 => ?_) (fun z13 => ?_)
          · refine jd_iincN (n := 1) (ls' := [_, _, _, _, _, _, _, _, _, _]) dX4_comeThrough_326 rfl (Nat.le_of_ble_eq_true rfl) rfl rfl ?_
            refine jd_goto (tgt := 257) dX4_comeThrough_329 (by decide) ?_
            have hw3 : WM G γ (k_fat (ll_sz (k_decl κ2 (sLand κ2 s) (allowed κ2 D to) D 100 to (nP κ2)) 4 to (lDut κ2 to + dutyOf κ2 to (worthOf κ2 (allowed κ2 D to)))) (allowed κ2 D to) (¬ lAll κ2 to < (worthOf κ2 (allowed κ2 D to))) (k + 1)) μ hh := by rw [← fat_n (κ := ll_sz (k_decl κ2 (sLand κ2 s) (allowed κ2 D to) D 100 to (nP κ2)) 4 to (lDut κ2 to + dutyOf κ2 to (worthOf κ2 (allowed κ2 D to)))) (A := allowed κ2 D to) (c := ¬ lAll κ2 to < (worthOf κ2 (allowed κ2 D to))) (k := k) (fun w => z12 ((fat_mem (l := sLand κ2 s) (A := allowed κ2 D to) (D := D) (W := 100) (to := to) (n := nP κ2) (k := k) (s := s) (by omega) (fun w => hdec2 k (by omega) w) (fun w => Decidable.byContradiction (fun z => al_sub hP24 (by omega) z w)) (by omega)).mpr w.1).1)]; exact hw2
            refine jd_lsub [some (.ref (γ 0 0)), some (.int (nI s)), some (.ref (γ 2 g)), some (.ref (γ 5 s)), some (.int (nI to)), none, some (.int (cc)), some (.int ((worthOf κ2 (allowed κ2 D to)))), some (.int (nI (k + 1))), none] ⟨rfl, rfl, rfl, rfl, rfl, rfl, rfl, rfl, trivial⟩ ?_
            exact ih257 (k + 1) (by omega) hh hw3 (fun j hj => (hf2 j hj))
          · refine jd_aload_n dX4_comeThrough_292 rfl ?_
            refine jd_getN in_X10 ((w_msleeper hw2) s (show s < nS κ2 by omega)) 5 q1605 dX4_comeThrough_293 rfl (Nat.le_of_ble_eq_true rfl) rfl ?_
            refine jd_top (w := .int (D)) (congrArg Value.int (hDμ)) ?_
            refine jd_iload dX4_comeThrough_296 rfl ?_
            refine jd_ishr dX4_comeThrough_298 ?_
            refine jd_iconst (v := 1) dX4_comeThrough_299 (by decide) ?_
            refine jd_iand dX4_comeThrough_300 ?_
            refine jd_iconst (v := 1) dX4_comeThrough_301 (by decide) ?_
            refine jd_icmp_ne (tgt := 326) dX4_comeThrough_302 (by decide) (fun z14 => ?_) (fun z15 => ?_)
            · refine jd_iincN (n := 1) (ls' := [_, _, _, _, _, _, _, _, _, _]) dX4_comeThrough_326 rfl (Nat.le_of_ble_eq_true rfl) rfl rfl ?_
              refine jd_goto (tgt := 257) dX4_comeThrough_329 (by decide) ?_
              have hw3 : WM G γ (k_fat (ll_sz (k_decl κ2 (sLand κ2 s) (allowed κ2 D to) D 100 to (nP κ2)) 4 to (lDut κ2 to + dutyOf κ2 to (worthOf κ2 (allowed κ2 D to)))) (allowed κ2 D to) (¬ lAll κ2 to < (worthOf κ2 (allowed κ2 D to))) (k + 1)) μ hh := by rw [← fat_n (κ := ll_sz (k_decl κ2 (sLand κ2 s) (allowed κ2 D to) D 100 to (nP κ2)) 4 to (lDut κ2 to + dutyOf κ2 to (worthOf κ2 (allowed κ2 D to)))) (A := allowed κ2 D to) (c := ¬ lAll κ2 to < (worthOf κ2 (allowed κ2 D to))) (k := k) (fun w => z14 ((fat_mem (l := sLand κ2 s) (A := allowed κ2 D to) (D := D) (W := 100) (to := to) (n := nP κ2) (k := k) (s := s) (by omega) (fun w => hdec2 k (by omega) w) (fun w => Decidable.byContradiction (fun z => al_sub hP24 (by omega) z w)) (by omega)).mpr w.1).2)]; exact hw2
              refine jd_lsub [some (.ref (γ 0 0)), some (.int (nI s)), some (.ref (γ 2 g)), some (.ref (γ 5 s)), some (.int (nI to)), none, some (.int (cc)), some (.int ((worthOf κ2 (allowed κ2 D to)))), some (.int (nI (k + 1))), none] ⟨rfl, rfl, rfl, rfl, rfl, rfl, rfl, rfl, trivial⟩ ?_
              exact ih257 (k + 1) (by omega) hh hw3 (fun j hj => (hf2 j hj))
            · refine jd_iload dX4_comeThrough_305 rfl ?_
              refine jd_aload_n dX4_comeThrough_307 rfl ?_
              refine jd_get in_X4 (w_mthis hw2) 6 q1472 dX4_comeThrough_308 rfl (Nat.le_of_ble_eq_true rfl) rfl ?_
              refine jd_iload dX4_comeThrough_311 rfl ?_
              refine jd_aald (y := γ 1 to) (w_mlands hw2) dX4_comeThrough_313 5 rfl (vp_in_nI (by omega) (by omega)) (by rw [nI_clamp (by omega)]) ?_
              refine jd_getN in_X5 ((w_mland hw2) to (show to < 6 by omega)) 1 q1447 dX4_comeThrough_314 rfl (Nat.le_of_ble_eq_true rfl) rfl ?_
              refine jd_icmp_gt (tgt := 326) dX4_comeThrough_317 (by decide) (fun z16 => ?_) (fun z17 => ?_)
              · refine jd_iincN (n := 1) (ls' := [_, _, _, _, _, _, _, _, _, _]) dX4_comeThrough_326 rfl (Nat.le_of_ble_eq_true rfl) rfl rfl ?_
                refine jd_goto (tgt := 257) dX4_comeThrough_329 (by decide) ?_
                have hyA : ll_has (allowed κ2 D to) k := (fat_mem (l := sLand κ2 s) (A := allowed κ2 D to) (D := D) (W := 100) (to := to) (n := nP κ2) (k := k) (s := s) (by omega) (fun w => hdec2 k (by omega) w) (fun w => Decidable.byContradiction (fun z => al_sub hP24 (by omega) z w)) (by omega)).mp ⟨z13, z15⟩
                have hw3 : WM G γ (k_fat (ll_sz (k_decl κ2 (sLand κ2 s) (allowed κ2 D to) D 100 to (nP κ2)) 4 to (lDut κ2 to + dutyOf κ2 to (worthOf κ2 (allowed κ2 D to)))) (allowed κ2 D to) (¬ lAll κ2 to < (worthOf κ2 (allowed κ2 D to))) (k + 1)) μ hh := by rw [← fat_n (κ := ll_sz (k_decl κ2 (sLand κ2 s) (allowed κ2 D to) D 100 to (nP κ2)) 4 to (lDut κ2 to + dutyOf κ2 to (worthOf κ2 (allowed κ2 D to)))) (A := allowed κ2 D to) (c := ¬ lAll κ2 to < (worthOf κ2 (allowed κ2 D to))) (k := k) (fun w => w.2 z16)]; exact hw2
                refine jd_lsub [some (.ref (γ 0 0)), some (.int (nI s)), some (.ref (γ 2 g)), some (.ref (γ 5 s)), some (.int (nI to)), none, some (.int (cc)), some (.int ((worthOf κ2 (allowed κ2 D to)))), some (.int (nI (k + 1))), none] ⟨rfl, rfl, rfl, rfl, rfl, rfl, rfl, rfl, trivial⟩ ?_
                exact ih257 (k + 1) (by omega) hh hw3 (fun j hj => (hf2 j hj))
              · refine jd_aload dX4_comeThrough_320 rfl ?_
                refine jd_iconst (v := 2) dX4_comeThrough_322 (by decide) ?_
                refine jd_putN (fs' := [_, _, _, _, _, _]) in_X12 tyX12_ok nmX12 ((w_mpart hw2) k (show k < nP κ2 by omega)) 3 q1648 dX4_comeThrough_323 rfl (Nat.le_of_ble_eq_true rfl) rfl rfl rfl (Nat.le_of_ble_eq_true rfl) rfl ?_
                refine jd_updG (fun h18 hs18 ho18 => ?_)
                have hw18 := m_pFate hw2 (k := k) (show k < nP κ2 by omega) (v := 2) hs18 ho18
                refine jd_iincN (n := 1) (ls' := [_, _, _, _, _, _, _, _, _, _]) dX4_comeThrough_326 rfl (Nat.le_of_ble_eq_true rfl) rfl rfl ?_
                refine jd_goto (tgt := 257) dX4_comeThrough_329 (by decide) ?_
                have hyA : ll_has (allowed κ2 D to) k := (fat_mem (l := sLand κ2 s) (A := allowed κ2 D to) (D := D) (W := 100) (to := to) (n := nP κ2) (k := k) (s := s) (by omega) (fun w => hdec2 k (by omega) w) (fun w => Decidable.byContradiction (fun z => al_sub hP24 (by omega) z w)) (by omega)).mp ⟨z13, z15⟩
                have hw3 : WM G γ (k_fat (ll_sz (k_decl κ2 (sLand κ2 s) (allowed κ2 D to) D 100 to (nP κ2)) 4 to (lDut κ2 to + dutyOf κ2 to (worthOf κ2 (allowed κ2 D to)))) (allowed κ2 D to) (¬ lAll κ2 to < (worthOf κ2 (allowed κ2 D to))) (k + 1)) μ h18 := by rw [← fat_y (κ := ll_sz (k_decl κ2 (sLand κ2 s) (allowed κ2 D to) D 100 to (nP κ2)) 4 to (lDut κ2 to + dutyOf κ2 to (worthOf κ2 (allowed κ2 D to)))) (A := allowed κ2 D to) (c := ¬ lAll κ2 to < (worthOf κ2 (allowed κ2 D to))) (k := k) hyA z17]; exact hw18
                refine jd_lsub [some (.ref (γ 0 0)), some (.int (nI s)), some (.ref (γ 2 g)), some (.ref (γ 5 s)), some (.int (nI to)), none, some (.int (cc)), some (.int ((worthOf κ2 (allowed κ2 D to)))), some (.int (nI (k + 1))), none] ⟨rfl, rfl, rfl, rfl, rfl, rfl, rfl, rfl, trivial⟩ ?_
                exact ih257 (k + 1) (by omega) h18 hw3 (fun j hj => ((ho18 j (ll_nel (by decide) hj)).trans (hf2 j hj)))
    refine jd_lsub [some (.ref (γ 0 0)), some (.int (nI s)), some (.ref (γ 2 g)), some (.ref (γ 5 s)), some (.int (nI to)), none, some (.int (cc)), some (.int ((worthOf κ2 (allowed κ2 D to)))), some (.int (nI 0)), none] ⟨rfl, rfl, rfl, rfl, rfl, rfl, rfl, rfl, trivial⟩ ?_
    exact lp257_3 (nP κ2) 0 (by omega) h2 (by rw [fat0]; exact hw2) (fun j hj => ((ho2 j (ll_nel (by decide) hj)).trans (hf0_ j hj)))
  have w81 : ∀ (κ2 : ll_K) (hh0 : jd_H) (to : Nat) (c : Prop) [_inst : Decidable c] (hw2 : WM G γ κ2 μ hh0) (hI2 : ll_I κ2) (hs2 : s < nS κ2) (hr2 : ¬ sRest κ2 s = 1) (hdec2 : ∀ p, p < nP κ2 → ll_has D p → pHead κ2 p = some s) (hto : to < 6) (hQ : ∀ h2 : jd_H, WM G γ (k_cross1 κ2 s D (hidH κ2 s D) to c) μ h2 → (∀ j : jd_Id, (j.1 < 20 ∨ 40 ≤ j.1) → h2 j = hh0 j) → (fun (r : Option Value) (h2 : jd_H) => r = some (.int (caughtN κ s g D)) ∧ WM G γ (k_cross κ s g D) μ h2 ∧ ∀ j : jd_Id, (j.1 < 20 ∨ 40 ≤ j.1) → h2 j = h j) (some (.int (ll_cnt (fun p => ll_has (hidH κ2 s D) p ∧ c) (nP κ2)))) h2), jd_W G mX4_comeThrough 12 (72) (14400) 81 [some (.ref (γ 0 0)), some (.int (nI s)), some (.ref (γ 2 g)), some (.ref (γ 5 s)), some (.int (nI to)), some (.int (jd_b (c))), none, none, none, none] [] hh0 (fun (r : Option Value) (h2 : jd_H) => r = some (.int (caughtN κ s g D)) ∧ WM G γ (k_cross κ s g D) μ h2 ∧ ∀ j : jd_Id, (j.1 < 20 ∨ 40 ≤ j.1) → h2 j = h j) jd_no := by
    intro κ2 hh0 to c _inst hw2 hI2 hs2 hr2 hdec2 hto hQ
    obtain ⟨⟨hG8, hS12, hP24, hH40, hN99, hH24⟩, hIg, hIs, hIp, hIh, hIl, hIq⟩ := id hI2
    have hsX1 := (hIs s hs2).1
    refine jd_iconst (v := 0) dX4_comeThrough_81 (by decide) ?_
    refine jd_istore (ls' := [_, _, _, _, _, _, _, _, _, _]) dX4_comeThrough_82 (Nat.le_of_ble_eq_true rfl) rfl rfl ?_
    refine jd_iconst (v := 0) dX4_comeThrough_84 (by decide) ?_
    refine jd_istore (ls' := [_, _, _, _, _, _, _, _, _, _]) dX4_comeThrough_85 (Nat.le_of_ble_eq_true rfl) rfl rfl ?_
    have lp87_19 : ∀ (j : Nat) (k : Nat) (hk0 : k + j = nP κ2) (hh : jd_H) (hw2 : WM G γ (k_sea κ2 s (hidH κ2 s D) to c k) μ hh) (hf2 : ∀ j : jd_Id, (j.1 < 20 ∨ 40 ≤ j.1) → hh j = hh0 j), jd_W G mX4_comeThrough 12 (3 * j + 0) (600 * j + 0) 87 [some (.ref (γ 0 0)), some (.int (nI s)), some (.ref (γ 2 g)), some (.ref (γ 5 s)), some (.int (nI to)), some (.int (jd_b (c))), some (.int ((ll_cnt (fun p => ll_has (hidH κ2 s D) p ∧ c) k))), some (.int (nI k)), none, none] [] hh (fun (r : Option Value) (h2 : jd_H) => r = some (.int (caughtN κ s g D)) ∧ WM G γ (k_cross κ s g D) μ h2 ∧ ∀ j : jd_Id, (j.1 < 20 ∨ 40 ≤ j.1) → h2 j = h j) jd_no := by
      intro j
      induction j with
      | zero =>
        intro k hk0 hh hw2 hf2
        obtain rfl : k = nP κ2 := by omega
        refine jd_iload dX4_comeThrough_87 rfl ?_
        refine jd_aload_n dX4_comeThrough_89 rfl ?_
        refine jd_get in_X4 (w_mthis hw2) 9 q1475 dX4_comeThrough_90 rfl (Nat.le_of_ble_eq_true rfl) rfl ?_
        obtain ⟨mcl20, hl20_⟩ := w_mparts hw2
        refine jd_pV (As := []) (rest := [.int (nI (nP κ2))]) (ct_J2_size hl20_ (show nP κ2 ≤ 900 by omega)) (jd_rv hl20_ 15 rfl rfl) rfl q1533 q344 q1999 q83 q346 nJ2_size dX4_comeThrough_93 rfl rfl rfl (Nat.le_of_ble_eq_true rfl) ⟨(Nat.le_of_ble_eq_true rfl), (Nat.le_of_ble_eq_true rfl)⟩ ?_
        refine jd_ncmp_ge (a := nP κ2) (b := nP κ2) (tgt := 216) dX4_comeThrough_96 (by decide) (by omega) (by omega) (fun z21 => ?_) (fun z22 => ?_)
        · have hI3 : ll_I (k_sea κ2 s (hidH κ2 s D) to c (nP κ2)) := I_seaH hI2 hs2 hr2 hto
          refine jd_lsub [some (.ref (γ 0 0)), some (.int (nI s)), some (.ref (γ 2 g)), some (.ref (γ 5 s)), some (.int (nI to)), none, some (.int ((ll_cnt (fun p => ll_has (hidH κ2 s D) p ∧ c) (nP κ2)))), none, none, none] ⟨rfl, rfl, rfl, rfl, rfl, rfl, trivial⟩ ?_
          exact w216 (k_sea κ2 s (hidH κ2 s D) to c (nP κ2)) hh to _ hw2 hI3 hs2 hr2 (fun p hp hd => by rw [sea_head, if_neg (fun w => ((hid_head hI2 hp).mp w.2.1).2 hd)]; exact hdec2 p hp hd) hto (fun h2 a b => hQ h2 a (fun j hj => (b j hj).trans ((fun j hj => (hf2 j hj)) j hj)))
        · omega
      | succ j ih87 =>
        intro k hk0 hh hw2 hf2
        have hat := at_bd hI2 (p := k) (by omega)
        refine jd_iload dX4_comeThrough_87 rfl ?_
        refine jd_aload_n dX4_comeThrough_89 rfl ?_
        refine jd_get in_X4 (w_mthis hw2) 9 q1475 dX4_comeThrough_90 rfl (Nat.le_of_ble_eq_true rfl) rfl ?_
        obtain ⟨mcl23, hl23_⟩ := w_mparts hw2
        refine jd_pV (As := []) (rest := [.int (nI k)]) (ct_J2_size hl23_ (show nP κ2 ≤ 900 by omega)) (jd_rv hl23_ 15 rfl rfl) rfl q1533 q344 q1999 q83 q346 nJ2_size dX4_comeThrough_93 rfl rfl rfl (Nat.le_of_ble_eq_true rfl) ⟨(Nat.le_of_ble_eq_true rfl), (Nat.le_of_ble_eq_true rfl)⟩ ?_
        refine jd_ncmp_ge (a := k) (b := nP κ2) (tgt := 216) dX4_comeThrough_96 (by decide) (by omega) (by omega) (fun z24 => ?_) (fun z25 => ?_)
        · omega
        · refine jd_aload_n dX4_comeThrough_99 rfl ?_
          refine jd_get in_X4 (w_mthis hw2) 9 q1475 dX4_comeThrough_100 rfl (Nat.le_of_ble_eq_true rfl) rfl ?_
          refine jd_iload dX4_comeThrough_103 rfl ?_
          refine jd_pV (As := [.int (nI k)]) (rest := []) (ct_J2_get hl23_ (show nP κ2 ≤ 900 by omega) (k := k) (show k < nP κ2 by omega)) (jd_rv hl23_ 15 rfl rfl) rfl q1584 q325 q2001 q83 q327 nJ2_get dX4_comeThrough_105 rfl rfl rfl (Nat.le_of_ble_eq_true rfl) ⟨(Nat.le_of_ble_eq_true rfl), (Nat.le_of_ble_eq_true rfl)⟩ ?_
          refine jd_castS (jd_rv ((w_mpart hw2) k (show k < nP κ2 by omega)) 13 rfl rfl) (ci := 13) rfl q1638 dX4_comeThrough_108 ?_
          refine jd_astore (ls' := [_, _, _, _, _, _, _, _, _, _]) dX4_comeThrough_111 (Nat.le_of_ble_eq_true rfl) rfl rfl ?_
          refine jd_aload dX4_comeThrough_113 rfl ?_
          refine jd_getN in_X12 ((w_mpart hw2) k (show k < nP κ2 by omega)) 4 q1649 dX4_comeThrough_115 rfl (Nat.le_of_ble_eq_true rfl) rfl ?_
          refine jd_top (w := .int (nI ((pAt κ2 k)))) (congrArg Value.int (congrArg nI sea_at)) ?_
          refine jd_iload_n dX4_comeThrough_118 rfl ?_
          refine jd_ncmp_ne (a := (pAt κ2 k)) (b := s) (tgt := 210) dX4_comeThrough_119 (by decide) (by omega) (by omega) (fun z26 => ?_) (fun z27 => ?_)
          · refine jd_iincN (n := 1) (ls' := [_, _, _, _, _, _, _, _, _, _]) dX4_comeThrough_210 rfl (Nat.le_of_ble_eq_true rfl) rfl rfl ?_
            refine jd_goto (tgt := 87) dX4_comeThrough_213 (by decide) ?_
            have hnH : ¬ ll_has (hidH κ2 s D) k := fun w => z26 ((at_headW (by omega)).mpr ((hid_head hI2 (by omega)).mp w).1)
            have hw3 : WM G γ (k_sea κ2 s (hidH κ2 s D) to c (k + 1)) μ hh := by rw [← sea_no hnH]; exact hw2
            refine jd_wk (cb' := 3 * (j) + 0) (sb' := 600 * (j) + 0) ?_ (by omega) (by omega)
            refine jd_lsub [some (.ref (γ 0 0)), some (.int (nI s)), some (.ref (γ 2 g)), some (.ref (γ 5 s)), some (.int (nI to)), some (.int (jd_b (c))), some (.int ((ll_cnt (fun p => ll_has (hidH κ2 s D) p ∧ c) (k + 1)))), some (.int (nI (k + 1))), none, none] ⟨rfl, rfl, rfl, rfl, rfl, rfl, (congrArg (fun x => some (Value.int x)) (cnt_n (P := fun p => ll_has (hidH κ2 s D) p ∧ c) (fun w => hnH w.1))), rfl, trivial⟩ ?_
            exact ih87 (k + 1) (by omega) hh hw3 (fun j hj => (hf2 j hj))
          · refine jd_aload_n dX4_comeThrough_122 rfl ?_
            refine jd_getN in_X10 ((w_msleeper hw2) s (show s < nS κ2 by omega)) 5 q1605 dX4_comeThrough_123 rfl (Nat.le_of_ble_eq_true rfl) rfl ?_
            refine jd_top (w := .int (D)) (congrArg Value.int (hDμ)) ?_
            refine jd_iload dX4_comeThrough_126 rfl ?_
            refine jd_ishr dX4_comeThrough_128 ?_
            refine jd_iconst (v := 1) dX4_comeThrough_129 (by decide) ?_
            refine jd_iand dX4_comeThrough_130 ?_
            refine jd_iconst (v := 1) dX4_comeThrough_131 (by decide) ?_
            refine jd_icmp_ne (tgt := 138) dX4_comeThrough_132 (by decide) (fun z28 => ?_) (fun z29 => ?_)
            · refine jd_aload_n dX4_comeThrough_138 rfl ?_
              refine jd_iload_n dX4_comeThrough_139 rfl ?_
              refine jd_aload dX4_comeThrough_140 rfl ?_
              refine jd_getN in_X12 ((w_mpart hw2) k (show k < nP κ2 by omega)) 0 q1644 dX4_comeThrough_142 rfl (Nat.le_of_ble_eq_true rfl) rfl ?_
              refine jd_top (w := .int (nI ((pDream κ2 k)))) (congrArg Value.int (congrArg nI (by simp [pDream, k_sea]))) ?_
              refine jd_callV (As := [.int (nI s), .int (nI ((pDream κ2 k)))]) (rest := []) (ct_X4_hide hw2 s ((pDream κ2 k)) (by omega) (by have := (hIp k (by omega)).2.2.2.2.1; omega) (hidP_le (by omega) k) (show nNight κ2 < 128 by omega) (hid_bd (fun x hx => by have := hidP_ok hI2 hs2 (H := (hidH κ2 s D)) k (by omega) x hx; omega))) (jd_rv (w_mthis hw2) 9 rfl rfl) rfl q1785 q1787 qs60 q90 q1788 nX4_hide dX4_comeThrough_145 rfl rfl rfl (Nat.le_of_ble_eq_true rfl) ⟨(Nat.le_of_ble_eq_true rfl), (Nat.le_of_ble_eq_true rfl), by omega, by omega⟩ (fun rv29 hn29 hq29 => ?_) jd_nox
              obtain ⟨rfl, hw29_, hf29_⟩ := hq29
              refine jd_aload dX4_comeThrough_148 rfl ?_
              refine jd_iload dX4_comeThrough_150 rfl ?_
              refine jd_bif_eq (tgt := 159) dX4_comeThrough_152 (by decide) (fun z31 => ?_) (fun z32 => ?_)
              · refine jd_iconst (v := 4) dX4_comeThrough_159 (by decide) ?_
                refine jd_putN (fs' := [_, _, _, _, _, _]) in_X12 tyX12_ok nmX12 ((w_mpart hw29_) k (show k < nP κ2 by omega)) 3 q1648 dX4_comeThrough_160 rfl (Nat.le_of_ble_eq_true rfl) rfl rfl rfl (Nat.le_of_ble_eq_true rfl) rfl ?_
                refine jd_updG (fun h33 hs33 ho33 => ?_)
                have hw33 := m_pFate hw29_ (k := k) (show k < nP κ2 by omega) (v := 4) hs33 ho33
                refine jd_aload dX4_comeThrough_163 rfl ?_
                refine jd_iload_n dX4_comeThrough_165 rfl ?_
                refine jd_putN (fs' := [_, _, _, _, _, _]) in_X12 tyX12_ok nmX12 ((w_mpart hw33) k (show k < nP κ2 by omega)) 5 q1651 dX4_comeThrough_166 rfl (Nat.le_of_ble_eq_true rfl) rfl rfl rfl (Nat.le_of_ble_eq_true rfl) rfl ?_
                refine jd_updG (fun h34 hs34 ho34 => ?_)
                have hw34 := m_pBy hw33 (k := k) (show k < nP κ2 by omega) (v := some s) hs34 ho34
                refine jd_iload dX4_comeThrough_169 rfl ?_
                refine jd_bif_ne (tgt := 177) dX4_comeThrough_171 (by decide) (fun z35 => ?_) (fun z36 => ?_)
                · exact absurd z35 z31
                · refine jd_goto (tgt := 210) dX4_comeThrough_174 (by decide) ?_
                  refine jd_iincN (n := 1) (ls' := [_, _, _, _, _, _, _, _, _, _]) dX4_comeThrough_210 rfl (Nat.le_of_ble_eq_true rfl) rfl rfl ?_
                  refine jd_goto (tgt := 87) dX4_comeThrough_213 (by decide) ?_
                  have hyH : ll_has (hidH κ2 s D) k := (hid_head hI2 (by omega)).mpr ⟨(at_headW (by omega)).mp z27, z28⟩
                  have hw3 : WM G γ (k_sea κ2 s (hidH κ2 s D) to c (k + 1)) μ h34 := by rw [← seaM_slip hyH z31]; exact hw34
                  refine jd_wk (cb' := 3 * (j) + 0) (sb' := 600 * (j) + 0) ?_ (by omega) (by omega)
                  refine jd_lsub [some (.ref (γ 0 0)), some (.int (nI s)), some (.ref (γ 2 g)), some (.ref (γ 5 s)), some (.int (nI to)), some (.int (jd_b (c))), some (.int ((ll_cnt (fun p => ll_has (hidH κ2 s D) p ∧ c) (k + 1)))), some (.int (nI (k + 1))), none, none] ⟨rfl, rfl, rfl, rfl, rfl, rfl, (congrArg (fun x => some (Value.int x)) (cnt_n (P := fun p => ll_has (hidH κ2 s D) p ∧ c) (fun w => z31 w.2))), rfl, trivial⟩ ?_
                  exact ih87 (k + 1) (by omega) h34 hw3 (fun j hj => ((ho34 j (ll_nel (by decide) hj)).trans ((ho33 j (ll_nel (by decide) hj)).trans ((hf29_ j hj).trans (hf2 j hj)))))
              · refine jd_iconst (v := 3) dX4_comeThrough_155 (by decide) ?_
                refine jd_goto (tgt := 160) dX4_comeThrough_156 (by decide) ?_
                refine jd_putN (fs' := [_, _, _, _, _, _]) in_X12 tyX12_ok nmX12 ((w_mpart hw29_) k (show k < nP κ2 by omega)) 3 q1648 dX4_comeThrough_160 rfl (Nat.le_of_ble_eq_true rfl) rfl rfl rfl (Nat.le_of_ble_eq_true rfl) rfl ?_
                refine jd_updG (fun h37 hs37 ho37 => ?_)
                have hw37 := m_pFate hw29_ (k := k) (show k < nP κ2 by omega) (v := 3) hs37 ho37
                refine jd_aload dX4_comeThrough_163 rfl ?_
                refine jd_iload_n dX4_comeThrough_165 rfl ?_
                refine jd_putN (fs' := [_, _, _, _, _, _]) in_X12 tyX12_ok nmX12 ((w_mpart hw37) k (show k < nP κ2 by omega)) 5 q1651 dX4_comeThrough_166 rfl (Nat.le_of_ble_eq_true rfl) rfl rfl rfl (Nat.le_of_ble_eq_true rfl) rfl ?_
                refine jd_updG (fun h38 hs38 ho38 => ?_)
                have hw38 := m_pBy hw37 (k := k) (show k < nP κ2 by omega) (v := some s) hs38 ho38
                refine jd_iload dX4_comeThrough_169 rfl ?_
                refine jd_bif_ne (tgt := 177) dX4_comeThrough_171 (by decide) (fun z39 => ?_) (fun z40 => ?_)
                · refine jd_aload dX4_comeThrough_177 rfl ?_
                  refine jd_bipush (v := 100) dX4_comeThrough_179 (by decide) ?_
                  refine jd_iload dX4_comeThrough_181 rfl ?_
                  refine jd_iaddN (a := 100) (b := to) dX4_comeThrough_183 ?_
                  refine jd_putN (fs' := [_, _, _, _, _, _]) in_X12 tyX12_ok nmX12 ((w_mpart hw38) k (show k < nP κ2 by omega)) 4 q1649 dX4_comeThrough_184 rfl (Nat.le_of_ble_eq_true rfl) rfl rfl rfl (Nat.le_of_ble_eq_true rfl) rfl ?_
                  refine jd_updG (fun h41 hs41 ho41 => ?_)
                  have hw41 := m_atS hw38 (k := k) (show k < nP κ2 by omega) (v := to) hs41 ho41
                  refine jd_aload_n dX4_comeThrough_187 rfl ?_
                  refine jd_get in_X4 (w_mthis hw41) 6 q1472 dX4_comeThrough_188 rfl (Nat.le_of_ble_eq_true rfl) rfl ?_
                  refine jd_iload dX4_comeThrough_191 rfl ?_
                  refine jd_aald (y := γ 1 to) (w_mlands hw41) dX4_comeThrough_193 5 rfl (vp_in_nI (by omega) (by omega)) (by rw [nI_clamp (by omega)]) ?_
                  refine jd_dup dX4_comeThrough_194 rfl ?_
                  refine jd_getN in_X5 ((w_mland hw41) to (show to < 6 by omega)) 5 q1452 dX4_comeThrough_195 rfl (Nat.le_of_ble_eq_true rfl) rfl ?_
                  refine jd_aload dX4_comeThrough_198 rfl ?_
                  refine jd_getN in_X12 ((w_mpart hw41) k (show k < nP κ2 by omega)) 1 q1645 dX4_comeThrough_200 rfl (Nat.le_of_ble_eq_true rfl) rfl ?_
                  refine jd_iadd dX4_comeThrough_203 ?_
                  refine jd_putN (fs' := [_, _, _, _, _, _]) in_X5 tyX5_ok nmX5 ((w_mland hw41) to (show to < 6 by omega)) 5 q1452 dX4_comeThrough_204 rfl (Nat.le_of_ble_eq_true rfl) rfl rfl rfl (Nat.le_of_ble_eq_true rfl) rfl ?_
                  refine jd_updG (fun h42 hs42 ho42 => ?_)
                  have hw42 := m_lFin hw41 (k := to) (show to < 6 by omega) (v := ((lFin (ll_so (ll_so (ll_so (ll_sn (k_hidM (k_sea κ2 s (hidH κ2 s D) to c k) s ((pDream κ2 k))) 4 k 3) 3 k (some s)) 1 k none) 2 k (some to)) to) + (pWorth (ll_so (ll_so (ll_so (ll_sn (k_hidM (k_sea κ2 s (hidH κ2 s D) to c k) s ((pDream κ2 k))) 4 k 3) 3 k (some s)) 1 k none) 2 k (some to)) k))) hs42 ho42
                  refine jd_iinc (v := ((ll_cnt (fun p => ll_has (hidH κ2 s D) p ∧ c) k) + 1)) (ls' := [_, _, _, _, _, _, _, _, _, _]) dX4_comeThrough_207 rfl (by first | rfl | decide) (Nat.le_of_ble_eq_true rfl) rfl rfl ?_
                  refine jd_iincN (n := 1) (ls' := [_, _, _, _, _, _, _, _, _, _]) dX4_comeThrough_210 rfl (Nat.le_of_ble_eq_true rfl) rfl rfl ?_
                  refine jd_goto (tgt := 87) dX4_comeThrough_213 (by decide) ?_
                  have hyH : ll_has (hidH κ2 s D) k := (hid_head hI2 (by omega)).mpr ⟨(at_headW (by omega)).mp z27, z28⟩
                  have hw3 : WM G γ (k_sea κ2 s (hidH κ2 s D) to c (k + 1)) μ h42 := by rw [← seaM_caught hyH z32 (w := pWorth κ2 k) rfl (f := lFin (k_sea κ2 s (hidH κ2 s D) to c k) to) rfl]; exact hw42
                  refine jd_wk (cb' := 3 * (j) + 0) (sb' := 600 * (j) + 0) ?_ (by omega) (by omega)
                  refine jd_lsub [some (.ref (γ 0 0)), some (.int (nI s)), some (.ref (γ 2 g)), some (.ref (γ 5 s)), some (.int (nI to)), some (.int (jd_b (c))), some (.int ((ll_cnt (fun p => ll_has (hidH κ2 s D) p ∧ c) (k + 1)))), some (.int (nI (k + 1))), none, none] ⟨rfl, rfl, rfl, rfl, rfl, rfl, (congrArg (fun x => some (Value.int x)) (cnt_y (P := fun p => ll_has (hidH κ2 s D) p ∧ c) ⟨hyH, z32⟩)), rfl, trivial⟩ ?_
                  exact ih87 (k + 1) (by omega) h42 hw3 (fun j hj => ((ho42 j (ll_nel (by decide) hj)).trans ((ho41 j (ll_nel (by decide) hj)).trans ((ho38 j (ll_nel (by decide) hj)).trans ((ho37 j (ll_nel (by decide) hj)).trans ((hf29_ j hj).trans (hf2 j hj)))))))
                · exact absurd z32 z40
            · refine jd_goto (tgt := 210) dX4_comeThrough_135 (by decide) ?_
              refine jd_iincN (n := 1) (ls' := [_, _, _, _, _, _, _, _, _, _]) dX4_comeThrough_210 rfl (Nat.le_of_ble_eq_true rfl) rfl rfl ?_
              refine jd_goto (tgt := 87) dX4_comeThrough_213 (by decide) ?_
              have hnH : ¬ ll_has (hidH κ2 s D) k := fun w => ((hid_head hI2 (by omega)).mp w).2 z29
              have hw3 : WM G γ (k_sea κ2 s (hidH κ2 s D) to c (k + 1)) μ hh := by rw [← sea_no hnH]; exact hw2
              refine jd_wk (cb' := 3 * (j) + 0) (sb' := 600 * (j) + 0) ?_ (by omega) (by omega)
              refine jd_lsub [some (.ref (γ 0 0)), some (.int (nI s)), some (.ref (γ 2 g)), some (.ref (γ 5 s)), some (.int (nI to)), some (.int (jd_b (c))), some (.int ((ll_cnt (fun p => ll_has (hidH κ2 s D) p ∧ c) (k + 1)))), some (.int (nI (k + 1))), none, none] ⟨rfl, rfl, rfl, rfl, rfl, rfl, (congrArg (fun x => some (Value.int x)) (cnt_n (P := fun p => ll_has (hidH κ2 s D) p ∧ c) (fun w => hnH w.1))), rfl, trivial⟩ ?_
              exact ih87 (k + 1) (by omega) hh hw3 (fun j hj => (hf2 j hj))
    refine jd_wk (cb' := 3 * (nP κ2) + 0) (sb' := 600 * (nP κ2) + 0) ?_ (by omega) (by omega)
    refine jd_lsub [some (.ref (γ 0 0)), some (.int (nI s)), some (.ref (γ 2 g)), some (.ref (γ 5 s)), some (.int (nI to)), some (.int (jd_b (c))), some (.int ((ll_cnt (fun p => ll_has (hidH κ2 s D) p ∧ c) 0))), some (.int (nI 0)), none, none] ⟨rfl, rfl, rfl, rfl, rfl, rfl, rfl, rfl, trivial⟩ ?_
    exact lp87_19 (nP κ2) 0 (by omega) hh0 (by rw [sea0]; exact hw2) (fun _ _ => rfl)
  refine jd_aload_n dX4_comeThrough_0 rfl ?_
  refine jd_get in_X4 (w_mthis hw) 8 q1474 dX4_comeThrough_1 rfl (Nat.le_of_ble_eq_true rfl) rfl ?_
  refine jd_iload_n dX4_comeThrough_4 rfl ?_
  refine jd_pV (As := [.int (nI s)]) (rest := []) (ct_J2_get hlS (show nS κ ≤ 900 by omega) (k := s) (show s < nS κ by omega)) (jd_rv hlS 15 rfl rfl) rfl q1584 q325 q2001 q83 q327 nJ2_get dX4_comeThrough_5 rfl rfl rfl (Nat.le_of_ble_eq_true rfl) ⟨(Nat.le_of_ble_eq_true rfl), (Nat.le_of_ble_eq_true rfl)⟩ ?_
  refine jd_castS (jd_rv ((w_msleeper hw) s (show s < nS κ by omega)) 12 rfl rfl) (ci := 12) rfl q1593 dX4_comeThrough_8 ?_
  refine jd_astore_n (ls' := [_, _, _, _, _, _, _, _, _, _]) dX4_comeThrough_11 (Nat.le_of_ble_eq_true rfl) rfl rfl ?_
  refine jd_aload_n dX4_comeThrough_12 rfl ?_
  refine jd_aload_n dX4_comeThrough_13 rfl ?_
  refine jd_getN in_X10 ((w_msleeper hw) s (show s < nS κ by omega)) 0 q1599 dX4_comeThrough_14 rfl (Nat.le_of_ble_eq_true rfl) rfl ?_
  refine jd_pV (As := [.int (nI ((sLand κ s)))]) (rest := []) (ct_bey hw hI (g := g) (l := (sLand κ s)) (by omega) (by omega)) (jd_rv ((w_mgate hw) g (show g < nG κ by omega)) 11 rfl rfl) rfl q1781 q1782 q1783 q104 q1784 nX8_beyond dX4_comeThrough_17 rfl rfl rfl (Nat.le_of_ble_eq_true rfl) ⟨(Nat.le_of_ble_eq_true rfl), (Nat.le_of_ble_eq_true rfl)⟩ ?_
  refine jd_istore (ls' := [_, _, _, _, _, _, _, _, _, _]) dX4_comeThrough_20 (Nat.le_of_ble_eq_true rfl) rfl rfl ?_
  have hto : acrossN κ g (sLand κ s) < 6 := across_lt hI (g := g) (l := sLand κ s) hg
  refine jd_iconst (v := 0) dX4_comeThrough_22 (by decide) ?_
  refine jd_istore (ls' := [_, _, _, _, _, _, _, _, _, _]) dX4_comeThrough_23 (Nat.le_of_ble_eq_true rfl) rfl rfl ?_
  refine jd_aload_n dX4_comeThrough_25 rfl ?_
  refine jd_pV (As := []) (rest := []) (ct_X8_dozes ((w_mgate hw) g (show g < nG κ by omega))) (jd_rv ((w_mgate hw) g (show g < nG κ by omega)) 11 rfl rfl) rfl q1773 q1774 q1775 q104 q1776 nX8_dozes dX4_comeThrough_26 rfl rfl rfl (Nat.le_of_ble_eq_true rfl) ⟨(Nat.le_of_ble_eq_true rfl), (Nat.le_of_ble_eq_true rfl)⟩ ?_
  refine jd_bif_ne (tgt := 81) dX4_comeThrough_29 (by decide) (fun z43 => ?_) (fun z44 => ?_)
  · have hcr := cross_D (s := s) (D := D) z43
    exact w81 κ h (acrossN κ g (sLand κ s)) False hw hI hs hr hdec hto (fun h2 a b => ⟨congrArg (fun x => some (Value.int x)) hcr.2.symm, by rw [hcr.1]; exact a, fun j hj => (b j hj).trans ((fun j hj => rfl) j hj)⟩)
  · refine jd_aload_n dX4_comeThrough_32 rfl ?_
    refine jd_get in_X4 (w_mthis hw) 3 q1469 dX4_comeThrough_33 rfl (Nat.le_of_ble_eq_true rfl) rfl ?_
    refine jd_bipush (v := 10) dX4_comeThrough_36 (by decide) ?_
    refine jd_irem dX4_comeThrough_38 (by decide) ?_
    refine jd_aload_n dX4_comeThrough_39 rfl ?_
    refine jd_getN in_X8 ((w_mgate hw) g (show g < nG κ by omega)) 4 q1551 dX4_comeThrough_40 rfl (Nat.le_of_ble_eq_true rfl) rfl ?_
    refine jd_mg2 51 (.int (jd_b ((¬ ((gOdds κ g) ≤ (jd_rem ((rNext κ)) (10))))))) (fun hj45 => ?_) ?_
    · refine jd_icmp_ge (tgt := 50) dX4_comeThrough_43 (by decide) (fun z46 => ?_) (fun z47 => ?_)
      · refine jd_iconst (v := 0) dX4_comeThrough_50 (by decide) ?_
        exact jd_top (congrArg Value.int (jd_b0 (fun w => w z46)).symm) hj45
      · refine jd_iconst (v := 1) dX4_comeThrough_46 (by decide) ?_
        refine jd_goto (tgt := 51) dX4_comeThrough_47 (by decide) ?_
        exact jd_top (congrArg Value.int (jd_b1 z47).symm) hj45
    · refine jd_istore (ls' := [_, _, _, _, _, _, _, _, _, _]) dX4_comeThrough_51 (Nat.le_of_ble_eq_true rfl) rfl rfl ?_
      refine jd_aload_n dX4_comeThrough_53 rfl ?_
      refine jd_bipush (v := 21) dX4_comeThrough_54 (by decide) ?_
      refine jd_aload_n dX4_comeThrough_56 rfl ?_
      refine jd_get in_X4 (w_mthis hw) 3 q1469 dX4_comeThrough_57 rfl (Nat.le_of_ble_eq_true rfl) rfl ?_
      refine jd_imul dX4_comeThrough_60 ?_
      refine jd_bipush (v := 11) dX4_comeThrough_61 (by decide) ?_
      refine jd_iadd dX4_comeThrough_63 ?_
      refine jd_sipush (v := 4096) dX4_comeThrough_64 (by decide) ?_
      refine jd_irem dX4_comeThrough_67 (by decide) ?_
      refine jd_put (fs' := [_, _, _, _, _, _, _, _, _, _, _, _, _]) in_X4 tyX4_ok nmX4 (w_mthis hw) 3 q1469 dX4_comeThrough_68 rfl (Nat.le_of_ble_eq_true rfl) rfl rfl rfl (Nat.le_of_ble_eq_true rfl) rfl ?_
      refine jd_updG (fun h48 hs48 ho48 => ?_)
      have hw48 := m_rNext hw (v := (jd_rem (((21 * (rNext κ)) + 11)) (4096))) hs48 ho48
      refine jd_aload_n dX4_comeThrough_71 rfl ?_
      refine jd_dup dX4_comeThrough_72 rfl ?_
      refine jd_get in_X4 (w_mthis hw48) 4 q1470 dX4_comeThrough_73 rfl (Nat.le_of_ble_eq_true rfl) rfl ?_
      refine jd_top (w := .int ((rDrawn κ))) (congrArg Value.int (by simp [rDrawn, ll_sz])) ?_
      refine jd_iconst (v := 1) dX4_comeThrough_76 (by decide) ?_
      refine jd_iadd dX4_comeThrough_77 ?_
      refine jd_put (fs' := [_, _, _, _, _, _, _, _, _, _, _, _, _]) in_X4 tyX4_ok nmX4 (w_mthis hw48) 4 q1470 dX4_comeThrough_78 rfl (Nat.le_of_ble_eq_true rfl) rfl rfl rfl (Nat.le_of_ble_eq_true rfl) rfl ?_
      refine jd_updG (fun h49 hs49 ho49 => ?_)
      have hw49 := m_rDrawn hw48 (v := ((rDrawn κ) + 1)) hs49 ho49
      have hcr := cross_N (s := s) (D := D) (Decidable.not_not.mp z44)
      have hwK : WM G γ (k_draw κ) μ h49 := hw49
      exact w81 (k_draw κ) h49 (acrossN κ g (sLand κ s)) (¬ gOdds κ g ≤ jd_rem (rNext κ) 10) hwK (I_draw hI) hs hr hdec hto (fun h2 a b => ⟨congrArg (fun x => some (Value.int x)) hcr.2.symm, by rw [hcr.1]; exact a, fun j hj => (b j hj).trans ((fun j hj => ((ho49 j (ll_nel (by decide) hj)).trans (ho48 j (ll_nel (by decide) hj)))) j hj)⟩)
