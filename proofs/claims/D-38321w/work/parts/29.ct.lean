/-! the component: what throws (printed by mk_c.py) -/
theorem hat_iae_k : ∀ w ∈ Bundle.ownAtoms0 "Lullabygate" 46 "java/lang/IllegalArgumentException" ["java/lang/RuntimeException", "java/lang/Exception"], w ∈ lw_all ∨ (w ∈ lw_tbl ∧ jd_nw w = true) ∨ vx_no w = false := by
  unfold Bundle.ownAtoms0 Bundle.throwableAtoms
  simp only [Bundle.chain0Atoms, Bundle.passAtoms, List.cons_append, List.nil_append]
  exact List.forall_mem_cons.mpr ⟨(Or.inl q93), List.forall_mem_cons.mpr ⟨(Or.inl q676), List.forall_mem_cons.mpr ⟨(Or.inl q630), List.forall_mem_cons.mpr ⟨(Or.inl q636), List.forall_mem_cons.mpr ⟨(Or.inl q639), List.forall_mem_cons.mpr ⟨(Or.inl q641), List.forall_mem_cons.mpr ⟨(Or.inl q677), List.forall_mem_cons.mpr ⟨(Or.inl q678), List.forall_mem_cons.mpr ⟨(Or.inl q130), List.forall_mem_cons.mpr ⟨(Or.inl q131), List.forall_mem_cons.mpr ⟨(Or.inl q624), List.forall_mem_cons.mpr ⟨(Or.inl q629), List.forall_mem_cons.mpr ⟨(Or.inl q637), List.forall_mem_cons.mpr ⟨(Or.inl q644), List.forall_mem_cons.mpr ⟨(Or.inl q670), List.forall_mem_cons.mpr ⟨(Or.inl q645), List.forall_mem_cons.mpr ⟨(Or.inl q671), List.forall_mem_cons.mpr ⟨(Or.inl q646), List.forall_mem_cons.mpr ⟨(Or.inl q672), List.forall_mem_cons.mpr ⟨(Or.inl q625), List.forall_mem_cons.mpr ⟨(Or.inr (Or.inr (by decide +kernel))), List.forall_mem_cons.mpr ⟨(Or.inl q627), List.forall_mem_cons.mpr ⟨(Or.inr (Or.inr (by decide +kernel))), List.forall_mem_cons.mpr ⟨(Or.inl q673), List.forall_mem_cons.mpr ⟨(Or.inl q734), List.forall_mem_cons.mpr ⟨(Or.inl q735), List.forall_mem_cons.mpr ⟨(Or.inl q736), List.forall_mem_cons.mpr ⟨(Or.inl q710), List.forall_mem_cons.mpr ⟨(Or.inr (Or.inl ⟨q663, rfl⟩)), List.forall_mem_cons.mpr ⟨(Or.inl q710), List.forall_mem_cons.mpr ⟨(Or.inl q711), List.forall_mem_cons.mpr ⟨(Or.inl q712), List.forall_mem_cons.mpr ⟨(Or.inl q713), List.forall_mem_cons.mpr ⟨(Or.inr (Or.inl ⟨q665, rfl⟩)), List.forall_mem_cons.mpr ⟨(Or.inl q713), List.forall_mem_cons.mpr ⟨(Or.inl q714), List.forall_mem_cons.mpr ⟨(Or.inl q715), List.forall_mem_cons.mpr ⟨(Or.inl q677), List.forall_mem_cons.mpr ⟨(Or.inr (Or.inl ⟨q667, rfl⟩)), List.forall_mem_cons.mpr ⟨(Or.inl q733), List.forall_mem_cons.mpr ⟨(Or.inl q725), List.forall_mem_cons.mpr ⟨(Or.inr (Or.inl ⟨q726, rfl⟩)), List.forall_mem_cons.mpr ⟨(Or.inl q727), List.forall_mem_cons.mpr ⟨(Or.inl q633), List.forall_mem_cons.mpr ⟨(Or.inl q728), List.forall_mem_cons.mpr ⟨(Or.inl q729), List.forall_mem_cons.mpr ⟨(Or.inl q730), List.forall_mem_cons.mpr ⟨(Or.inl q731), List.forall_mem_cons.mpr ⟨(Or.inr (Or.inr (by decide +kernel))), List.forall_mem_cons.mpr ⟨(Or.inr (Or.inr (by decide +kernel))), List.forall_mem_cons.mpr ⟨(Or.inl q642), List.forall_mem_cons.mpr ⟨(Or.inl q674), List.forall_mem_cons.mpr ⟨(Or.inl q732), fun _ h => absurd h List.not_mem_nil⟩⟩⟩⟩⟩⟩⟩⟩⟩⟩⟩⟩⟩⟩⟩⟩⟩⟩⟩⟩⟩⟩⟩⟩⟩⟩⟩⟩⟩⟩⟩⟩⟩⟩⟩⟩⟩⟩⟩⟩⟩⟩⟩⟩⟩⟩⟩⟩⟩⟩⟩⟩⟩
theorem hat_iae : ∀ w ∈ vx_at0 "Lullabygate" 46 "java/lang/IllegalArgumentException" ["java/lang/RuntimeException", "java/lang/Exception"], w ∈ lw_all ∨ (w ∈ lw_tbl ∧ jd_nw w = true) := fun w hw => by
  have h1 := List.mem_filter.mp hw
  rcases hat_iae_k w h1.1 with a | a | a
  · exact Or.inl a
  · exact Or.inr a
  · rw [a] at h1; exact absurd h1.2 (by decide)
theorem hat_iae_o : ∀ w ∈ vx_at0 "Lullabygate" 46 "java/lang/IllegalArgumentException" ["java/lang/RuntimeException", "java/lang/Exception"], vx_ot w = true := by decide +kernel

theorem hat_ise_k : ∀ w ∈ Bundle.ownAtoms0 "Lullabygate" 53 "java/lang/IllegalStateException" ["java/lang/RuntimeException", "java/lang/Exception"], w ∈ lw_all ∨ (w ∈ lw_tbl ∧ jd_nw w = true) ∨ vx_no w = false := by
  unfold Bundle.ownAtoms0 Bundle.throwableAtoms
  simp only [Bundle.chain0Atoms, Bundle.passAtoms, List.cons_append, List.nil_append]
  exact List.forall_mem_cons.mpr ⟨(Or.inl q93), List.forall_mem_cons.mpr ⟨(Or.inl q676), List.forall_mem_cons.mpr ⟨(Or.inl q630), List.forall_mem_cons.mpr ⟨(Or.inl q636), List.forall_mem_cons.mpr ⟨(Or.inl q639), List.forall_mem_cons.mpr ⟨(Or.inl q641), List.forall_mem_cons.mpr ⟨(Or.inl q677), List.forall_mem_cons.mpr ⟨(Or.inl q678), List.forall_mem_cons.mpr ⟨(Or.inl q130), List.forall_mem_cons.mpr ⟨(Or.inl q131), List.forall_mem_cons.mpr ⟨(Or.inl q624), List.forall_mem_cons.mpr ⟨(Or.inl q629), List.forall_mem_cons.mpr ⟨(Or.inl q637), List.forall_mem_cons.mpr ⟨(Or.inl q644), List.forall_mem_cons.mpr ⟨(Or.inl q670), List.forall_mem_cons.mpr ⟨(Or.inl q645), List.forall_mem_cons.mpr ⟨(Or.inl q671), List.forall_mem_cons.mpr ⟨(Or.inl q646), List.forall_mem_cons.mpr ⟨(Or.inl q672), List.forall_mem_cons.mpr ⟨(Or.inl q625), List.forall_mem_cons.mpr ⟨(Or.inr (Or.inr (by decide +kernel))), List.forall_mem_cons.mpr ⟨(Or.inl q627), List.forall_mem_cons.mpr ⟨(Or.inr (Or.inr (by decide +kernel))), List.forall_mem_cons.mpr ⟨(Or.inl q673), List.forall_mem_cons.mpr ⟨(Or.inl q760), List.forall_mem_cons.mpr ⟨(Or.inl q761), List.forall_mem_cons.mpr ⟨(Or.inl q762), List.forall_mem_cons.mpr ⟨(Or.inl q710), List.forall_mem_cons.mpr ⟨(Or.inr (Or.inl ⟨q663, rfl⟩)), List.forall_mem_cons.mpr ⟨(Or.inl q710), List.forall_mem_cons.mpr ⟨(Or.inl q711), List.forall_mem_cons.mpr ⟨(Or.inl q712), List.forall_mem_cons.mpr ⟨(Or.inl q713), List.forall_mem_cons.mpr ⟨(Or.inr (Or.inl ⟨q665, rfl⟩)), List.forall_mem_cons.mpr ⟨(Or.inl q713), List.forall_mem_cons.mpr ⟨(Or.inl q714), List.forall_mem_cons.mpr ⟨(Or.inl q715), List.forall_mem_cons.mpr ⟨(Or.inl q677), List.forall_mem_cons.mpr ⟨(Or.inr (Or.inl ⟨q667, rfl⟩)), List.forall_mem_cons.mpr ⟨(Or.inl q759), List.forall_mem_cons.mpr ⟨(Or.inl q751), List.forall_mem_cons.mpr ⟨(Or.inr (Or.inl ⟨q752, rfl⟩)), List.forall_mem_cons.mpr ⟨(Or.inl q753), List.forall_mem_cons.mpr ⟨(Or.inl q634), List.forall_mem_cons.mpr ⟨(Or.inl q754), List.forall_mem_cons.mpr ⟨(Or.inl q755), List.forall_mem_cons.mpr ⟨(Or.inl q756), List.forall_mem_cons.mpr ⟨(Or.inl q757), List.forall_mem_cons.mpr ⟨(Or.inr (Or.inr (by decide +kernel))), List.forall_mem_cons.mpr ⟨(Or.inr (Or.inr (by decide +kernel))), List.forall_mem_cons.mpr ⟨(Or.inl q642), List.forall_mem_cons.mpr ⟨(Or.inl q674), List.forall_mem_cons.mpr ⟨(Or.inl q758), fun _ h => absurd h List.not_mem_nil⟩⟩⟩⟩⟩⟩⟩⟩⟩⟩⟩⟩⟩⟩⟩⟩⟩⟩⟩⟩⟩⟩⟩⟩⟩⟩⟩⟩⟩⟩⟩⟩⟩⟩⟩⟩⟩⟩⟩⟩⟩⟩⟩⟩⟩⟩⟩⟩⟩⟩⟩⟩⟩
theorem hat_ise : ∀ w ∈ vx_at0 "Lullabygate" 53 "java/lang/IllegalStateException" ["java/lang/RuntimeException", "java/lang/Exception"], w ∈ lw_all ∨ (w ∈ lw_tbl ∧ jd_nw w = true) := fun w hw => by
  have h1 := List.mem_filter.mp hw
  rcases hat_ise_k w h1.1 with a | a | a
  · exact Or.inl a
  · exact Or.inr a
  · rw [a] at h1; exact absurd h1.2 (by decide)
theorem hat_ise_o : ∀ w ∈ vx_at0 "Lullabygate" 53 "java/lang/IllegalStateException" ["java/lang/RuntimeException", "java/lang/Exception"], vx_ot w = true := by decide +kernel

theorem hat_iob_k : ∀ w ∈ Bundle.ownAtoms0 "Lullabygate" 56 "java/lang/IndexOutOfBoundsException" ["java/lang/RuntimeException", "java/lang/Exception"], w ∈ lw_all ∨ (w ∈ lw_tbl ∧ jd_nw w = true) ∨ vx_no w = false := by
  unfold Bundle.ownAtoms0 Bundle.throwableAtoms
  simp only [Bundle.chain0Atoms, Bundle.passAtoms, List.cons_append, List.nil_append]
  exact List.forall_mem_cons.mpr ⟨(Or.inl q93), List.forall_mem_cons.mpr ⟨(Or.inl q676), List.forall_mem_cons.mpr ⟨(Or.inl q630), List.forall_mem_cons.mpr ⟨(Or.inl q636), List.forall_mem_cons.mpr ⟨(Or.inl q639), List.forall_mem_cons.mpr ⟨(Or.inl q641), List.forall_mem_cons.mpr ⟨(Or.inl q677), List.forall_mem_cons.mpr ⟨(Or.inl q678), List.forall_mem_cons.mpr ⟨(Or.inl q130), List.forall_mem_cons.mpr ⟨(Or.inl q131), List.forall_mem_cons.mpr ⟨(Or.inl q624), List.forall_mem_cons.mpr ⟨(Or.inl q629), List.forall_mem_cons.mpr ⟨(Or.inl q637), List.forall_mem_cons.mpr ⟨(Or.inl q644), List.forall_mem_cons.mpr ⟨(Or.inl q670), List.forall_mem_cons.mpr ⟨(Or.inl q645), List.forall_mem_cons.mpr ⟨(Or.inl q671), List.forall_mem_cons.mpr ⟨(Or.inl q646), List.forall_mem_cons.mpr ⟨(Or.inl q672), List.forall_mem_cons.mpr ⟨(Or.inl q625), List.forall_mem_cons.mpr ⟨(Or.inr (Or.inr (by decide +kernel))), List.forall_mem_cons.mpr ⟨(Or.inl q627), List.forall_mem_cons.mpr ⟨(Or.inr (Or.inr (by decide +kernel))), List.forall_mem_cons.mpr ⟨(Or.inl q673), List.forall_mem_cons.mpr ⟨(Or.inl q707), List.forall_mem_cons.mpr ⟨(Or.inl q708), List.forall_mem_cons.mpr ⟨(Or.inl q709), List.forall_mem_cons.mpr ⟨(Or.inl q710), List.forall_mem_cons.mpr ⟨(Or.inr (Or.inl ⟨q663, rfl⟩)), List.forall_mem_cons.mpr ⟨(Or.inl q710), List.forall_mem_cons.mpr ⟨(Or.inl q711), List.forall_mem_cons.mpr ⟨(Or.inl q712), List.forall_mem_cons.mpr ⟨(Or.inl q713), List.forall_mem_cons.mpr ⟨(Or.inr (Or.inl ⟨q665, rfl⟩)), List.forall_mem_cons.mpr ⟨(Or.inl q713), List.forall_mem_cons.mpr ⟨(Or.inl q714), List.forall_mem_cons.mpr ⟨(Or.inl q715), List.forall_mem_cons.mpr ⟨(Or.inl q677), List.forall_mem_cons.mpr ⟨(Or.inr (Or.inl ⟨q667, rfl⟩)), List.forall_mem_cons.mpr ⟨(Or.inl q706), List.forall_mem_cons.mpr ⟨(Or.inl q698), List.forall_mem_cons.mpr ⟨(Or.inr (Or.inl ⟨q699, rfl⟩)), List.forall_mem_cons.mpr ⟨(Or.inl q700), List.forall_mem_cons.mpr ⟨(Or.inl q635), List.forall_mem_cons.mpr ⟨(Or.inl q701), List.forall_mem_cons.mpr ⟨(Or.inl q702), List.forall_mem_cons.mpr ⟨(Or.inl q703), List.forall_mem_cons.mpr ⟨(Or.inl q704), List.forall_mem_cons.mpr ⟨(Or.inr (Or.inr (by decide +kernel))), List.forall_mem_cons.mpr ⟨(Or.inr (Or.inr (by decide +kernel))), List.forall_mem_cons.mpr ⟨(Or.inl q642), List.forall_mem_cons.mpr ⟨(Or.inl q674), List.forall_mem_cons.mpr ⟨(Or.inl q705), fun _ h => absurd h List.not_mem_nil⟩⟩⟩⟩⟩⟩⟩⟩⟩⟩⟩⟩⟩⟩⟩⟩⟩⟩⟩⟩⟩⟩⟩⟩⟩⟩⟩⟩⟩⟩⟩⟩⟩⟩⟩⟩⟩⟩⟩⟩⟩⟩⟩⟩⟩⟩⟩⟩⟩⟩⟩⟩⟩
theorem hat_iob : ∀ w ∈ vx_at0 "Lullabygate" 56 "java/lang/IndexOutOfBoundsException" ["java/lang/RuntimeException", "java/lang/Exception"], w ∈ lw_all ∨ (w ∈ lw_tbl ∧ jd_nw w = true) := fun w hw => by
  have h1 := List.mem_filter.mp hw
  rcases hat_iob_k w h1.1 with a | a | a
  · exact Or.inl a
  · exact Or.inr a
  · rw [a] at h1; exact absurd h1.2 (by decide)
theorem hat_iob_o : ∀ w ∈ vx_at0 "Lullabygate" 56 "java/lang/IndexOutOfBoundsException" ["java/lang/RuntimeException", "java/lang/Exception"], vx_ot w = true := by decide +kernel

set_option maxRecDepth 20000 in
set_option maxHeartbeats 2000000 in
theorem ct_X1_must {G : jd_G} {h : jd_H} (B : Prop) [Decidable B] : jd_Ct G mX1_must 10 (1) (6) [.int (jd_b (B))] h (fun v h2 => (B) ∧ v = none ∧ h2 = h) (fun E h2 => ¬ (B) ∧ E = "java/lang/IllegalArgumentException" ∧ h2 = h) := by
  refine jd_ct (ls := [some (.int (jd_b (B)))]) rfl rfl (by decide) (Nat.le_of_ble_eq_true rfl) rfl ?_
  refine jd_iload_n dX1_must_0 rfl ?_
  refine jd_bif_ne (tgt := 12) dX1_must_1 (by decide) (fun z1 => ?_) (fun z2 => ?_)
  · exact jd_vret dX1_must_12 rfl ⟨z1, rfl, rfl⟩
  · exact jd_throw0 (cls := "java/lang/IllegalArgumentException") rfl (by decide +kernel) q724 q101 hat_iae hat_iae_o dX1_must_4 dX1_must_7 dX1_must_8 dX1_must_11 (by decide) (by omega) (by omega) ⟨z2, rfl, rfl⟩

set_option maxRecDepth 20000 in
set_option maxHeartbeats 2000000 in
theorem ct_X1_checkState {G : jd_G} {h : jd_H} (B : Prop) [Decidable B] : jd_Ct G mX1_checkState 10 (1) (6) [.int (jd_b (B))] h (fun v h2 => (B) ∧ v = none ∧ h2 = h) (fun E h2 => ¬ (B) ∧ E = "java/lang/IllegalStateException" ∧ h2 = h) := by
  refine jd_ct (ls := [some (.int (jd_b (B)))]) rfl rfl (by decide) (Nat.le_of_ble_eq_true rfl) rfl ?_
  refine jd_iload_n dX1_checkState_0 rfl ?_
  refine jd_bif_ne (tgt := 12) dX1_checkState_1 (by decide) (fun z1 => ?_) (fun z2 => ?_)
  · exact jd_vret dX1_checkState_12 rfl ⟨z1, rfl, rfl⟩
  · exact jd_throw0 (cls := "java/lang/IllegalStateException") rfl (by decide +kernel) q750 q102 hat_ise hat_ise_o dX1_checkState_4 dX1_checkState_7 dX1_checkState_8 dX1_checkState_11 (by decide) (by omega) (by omega) ⟨z2, rfl, rfl⟩

set_option maxRecDepth 20000 in
set_option maxHeartbeats 2000000 in
theorem ct_X1_checkPlace {G : jd_G} {h : jd_H} (p c : Int32) : jd_Ct G mX1_checkPlace 10 (1) (6) [.int (p), .int (c)] h (fun v h2 => (¬ p < 0 ∧ p < c) ∧ v = none ∧ h2 = h) (fun E h2 => ¬ (¬ p < 0 ∧ p < c) ∧ E = "java/lang/IndexOutOfBoundsException" ∧ h2 = h) := by
  refine jd_ct (ls := [some (.int (p)), some (.int (c))]) rfl rfl (by decide) (Nat.le_of_ble_eq_true rfl) rfl ?_
  refine jd_iload_n dX1_checkPlace_0 rfl ?_
  refine jd_if_lt (tgt := 9) dX1_checkPlace_1 (by decide) (fun z1 => ?_) (fun z2 => ?_)
  · exact jd_throw0 (cls := "java/lang/IndexOutOfBoundsException") rfl (by decide +kernel) q697 q96 hat_iob hat_iob_o dX1_checkPlace_9 dX1_checkPlace_12 dX1_checkPlace_13 dX1_checkPlace_16 (by decide) (by omega) (by omega) ⟨fun w => w.1 z1, rfl, rfl⟩
  · refine jd_iload_n dX1_checkPlace_4 rfl ?_
    refine jd_iload_n dX1_checkPlace_5 rfl ?_
    refine jd_icmp_lt (tgt := 17) dX1_checkPlace_6 (by decide) (fun z3 => ?_) (fun z4 => ?_)
    · exact jd_vret dX1_checkPlace_17 rfl ⟨⟨z2, z3⟩, rfl, rfl⟩
    · exact jd_throw0 (cls := "java/lang/IndexOutOfBoundsException") rfl (by decide +kernel) q697 q96 hat_iob hat_iob_o dX1_checkPlace_9 dX1_checkPlace_12 dX1_checkPlace_13 dX1_checkPlace_16 (by decide) (by omega) (by omega) ⟨fun w => z4 w.2, rfl, rfl⟩
