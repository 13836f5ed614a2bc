/-! small methods (printed by gen_leaf.py) -/
set_option maxRecDepth 20000 in
set_option maxHeartbeats 2000000 in
theorem ct_X7_isOpen {G : jd_G} {h : jd_H} {i : jd_Id} {a : Nat} {one other fr hours odds watch : Int32} {rv qu : Nat} (ho : h i = some (a, .inl (.inr (3, [.int (one), .int (other), .int (fr), .int (hours), .int (odds), .int (watch), .ref (rv), .ref (qu)])))) (hour : Int32) : jd_Ct G mX7_isOpen 0 (0) (0) [.ref (a), .int (hour)] h (jd_pu h (.int (jd_b ((¬ (hours ≤ (jd_rem (((hour - fr) + 24)) (24)))))))) jd_no := by
  refine jd_ct (ls := [some (.ref (a)), some (.int (hour))]) rfl rfl (by decide) (Nat.le_of_ble_eq_true rfl) rfl ?_
  refine jd_iload_n dX7_isOpen_0 rfl ?_
  refine jd_aload_n dX7_isOpen_1 rfl ?_
  refine jd_get in_X7 ho 2 q783 dX7_isOpen_2 rfl (Nat.le_of_ble_eq_true rfl) rfl ?_
  refine jd_isub dX7_isOpen_5 ?_
  refine jd_bipush (v := 24) dX7_isOpen_6 (by decide) ?_
  refine jd_iadd dX7_isOpen_8 ?_
  refine jd_bipush (v := 24) dX7_isOpen_9 (by decide) ?_
  refine jd_irem dX7_isOpen_11 (by decide) ?_
  refine jd_aload_n dX7_isOpen_12 rfl ?_
  refine jd_get in_X7 ho 3 q784 dX7_isOpen_13 rfl (Nat.le_of_ble_eq_true rfl) rfl ?_
  refine jd_mg2 24 (.int (jd_b ((¬ (hours ≤ (jd_rem (((hour - fr) + 24)) (24))))))) (fun hj1 => ?_) ?_
  · refine jd_icmp_ge (tgt := 23) dX7_isOpen_16 (by decide) (fun z2 => ?_) (fun z3 => ?_)
    · refine jd_iconst (v := 0) dX7_isOpen_23 (by decide) ?_
      exact jd_top (congrArg Value.int (jd_b0 (fun w => w z2)).symm) hj1
    · refine jd_iconst (v := 1) dX7_isOpen_19 (by decide) ?_
      refine jd_goto (tgt := 24) dX7_isOpen_20 (by decide) ?_
      exact jd_top (congrArg Value.int (jd_b1 z3).symm) hj1
  · exact jd_zret dX7_isOpen_24 rfl (jd_b01 _) ⟨rfl, rfl⟩

set_option maxRecDepth 20000 in
set_option maxHeartbeats 2000000 in
theorem ct_X7_isDozing {G : jd_G} {h : jd_H} {i : jd_Id} {a : Nat} {one other fr hours odds watch : Int32} {rv qu : Nat} (ho : h i = some (a, .inl (.inr (3, [.int (one), .int (other), .int (fr), .int (hours), .int (odds), .int (watch), .ref (rv), .ref (qu)])))) : jd_Ct G mX7_isDozing 0 (0) (0) [.ref (a)] h (jd_pu h (.int (jd_b ((¬ (watch < 5)))))) jd_no := by
  refine jd_ct (ls := [some (.ref (a))]) rfl rfl (by decide) (Nat.le_of_ble_eq_true rfl) rfl ?_
  refine jd_aload_n dX7_isDozing_0 rfl ?_
  refine jd_get in_X7 ho 5 q787 dX7_isDozing_1 rfl (Nat.le_of_ble_eq_true rfl) rfl ?_
  refine jd_iconst (v := 5) dX7_isDozing_4 (by decide) ?_
  refine jd_mg2 13 (.int (jd_b ((¬ (watch < 5))))) (fun hj1 => ?_) ?_
  · refine jd_icmp_lt (tgt := 12) dX7_isDozing_5 (by decide) (fun z2 => ?_) (fun z3 => ?_)
    · refine jd_iconst (v := 0) dX7_isDozing_12 (by decide) ?_
      exact jd_top (congrArg Value.int (jd_b0 (fun w => w z2)).symm) hj1
    · refine jd_iconst (v := 1) dX7_isDozing_8 (by decide) ?_
      refine jd_goto (tgt := 13) dX7_isDozing_9 (by decide) ?_
      exact jd_top (congrArg Value.int (jd_b1 z3).symm) hj1
  · exact jd_zret dX7_isDozing_13 rfl (jd_b01 _) ⟨rfl, rfl⟩

set_option maxRecDepth 20000 in
set_option maxHeartbeats 2000000 in
theorem ct_X7_hasLand {G : jd_G} {h : jd_H} {i : jd_Id} {a : Nat} {one other fr hours odds watch : Int32} {rv qu : Nat} (ho : h i = some (a, .inl (.inr (3, [.int (one), .int (other), .int (fr), .int (hours), .int (odds), .int (watch), .ref (rv), .ref (qu)])))) (land : Int32) : jd_Ct G mX7_hasLand 0 (0) (0) [.ref (a), .int (land)] h (jd_pu h (.int (jd_b (((one = land) ∨ (other = land)))))) jd_no := by
  refine jd_ct (ls := [some (.ref (a)), some (.int (land))]) rfl rfl (by decide) (Nat.le_of_ble_eq_true rfl) rfl ?_
  refine jd_aload_n dX7_hasLand_0 rfl ?_
  refine jd_get in_X7 ho 0 q779 dX7_hasLand_1 rfl (Nat.le_of_ble_eq_true rfl) rfl ?_
  refine jd_iload_n dX7_hasLand_4 rfl ?_
  refine jd_mg2 21 (.int (jd_b (((one = land) ∨ (other = land))))) (fun hj1 => ?_) ?_
  · refine jd_icmp_eq (tgt := 16) dX7_hasLand_5 (by decide) (fun z2 => ?_) (fun z3 => ?_)
    · refine jd_iconst (v := 1) dX7_hasLand_16 (by decide) ?_
      refine jd_goto (tgt := 21) dX7_hasLand_17 (by decide) ?_
      exact jd_top (congrArg Value.int (jd_b1 (Or.inl z2)).symm) hj1
    · refine jd_aload_n dX7_hasLand_8 rfl ?_
      refine jd_get in_X7 ho 1 q781 dX7_hasLand_9 rfl (Nat.le_of_ble_eq_true rfl) rfl ?_
      refine jd_iload_n dX7_hasLand_12 rfl ?_
      refine jd_icmp_ne (tgt := 20) dX7_hasLand_13 (by decide) (fun z4 => ?_) (fun z5 => ?_)
      · refine jd_iconst (v := 0) dX7_hasLand_20 (by decide) ?_
        exact jd_top (congrArg Value.int (jd_b0 (fun w => w.elim z3 z4)).symm) hj1
      · refine jd_iconst (v := 1) dX7_hasLand_16 (by decide) ?_
        refine jd_goto (tgt := 21) dX7_hasLand_17 (by decide) ?_
        exact jd_top (congrArg Value.int (jd_b1 (Or.inr z5)).symm) hj1
  · exact jd_zret dX7_hasLand_21 rfl (jd_b01 _) ⟨rfl, rfl⟩

set_option maxRecDepth 20000 in
set_option maxHeartbeats 2000000 in
theorem ct_X7_across {G : jd_G} {h : jd_H} {i : jd_Id} {a : Nat} {one other fr hours odds watch : Int32} {rv qu : Nat} (ho : h i = some (a, .inl (.inr (3, [.int (one), .int (other), .int (fr), .int (hours), .int (odds), .int (watch), .ref (rv), .ref (qu)])))) (land : Int32) : jd_Ct G mX7_across 0 (0) (0) [.ref (a), .int (land)] h (jd_pu h (.int (if land = one then other else one))) jd_no := by
  refine jd_ct (ls := [some (.ref (a)), some (.int (land))]) rfl rfl (by decide) (Nat.le_of_ble_eq_true rfl) rfl ?_
  refine jd_iload_n dX7_across_0 rfl ?_
  refine jd_aload_n dX7_across_1 rfl ?_
  refine jd_get in_X7 ho 0 q779 dX7_across_2 rfl (Nat.le_of_ble_eq_true rfl) rfl ?_
  refine jd_mg2 19 (.int (if land = one then other else one)) (fun hj1 => ?_) ?_
  · refine jd_icmp_ne (tgt := 15) dX7_across_5 (by decide) (fun z2 => ?_) (fun z3 => ?_)
    · refine jd_aload_n dX7_across_15 rfl ?_
      refine jd_get in_X7 ho 0 q779 dX7_across_16 rfl (Nat.le_of_ble_eq_true rfl) rfl ?_
      exact jd_top (congrArg Value.int (by rw [if_neg z2])) hj1
    · refine jd_aload_n dX7_across_8 rfl ?_
      refine jd_get in_X7 ho 1 q781 dX7_across_9 rfl (Nat.le_of_ble_eq_true rfl) rfl ?_
      refine jd_goto (tgt := 19) dX7_across_12 (by decide) ?_
      exact jd_top (congrArg Value.int (by rw [if_pos z3])) hj1
  · exact jd_iret dX7_across_19 rfl ⟨rfl, rfl⟩

set_option maxRecDepth 20000 in
set_option maxHeartbeats 2000000 in
theorem ct_X11_isNightmare {G : jd_G} {h : jd_H} {i : jd_Id} {a : Nat} {dream worth dread head store by_ : Int32} {fate : Nat} (ho : h i = some (a, .inl (.inr (5, [.int (dream), .int (worth), .int (dread), .int (head), .int (store), .ref (fate), .int (by_)])))) : jd_Ct G mX11_isNightmare 0 (0) (0) [.ref (a)] h (jd_pu h (.int (jd_b ((¬ (dread < 5)))))) jd_no := by
  refine jd_ct (ls := [some (.ref (a))]) rfl rfl (by decide) (Nat.le_of_ble_eq_true rfl) rfl ?_
  refine jd_aload_n dX11_isNightmare_0 rfl ?_
  refine jd_get in_X11 ho 2 q905 dX11_isNightmare_1 rfl (Nat.le_of_ble_eq_true rfl) rfl ?_
  refine jd_iconst (v := 5) dX11_isNightmare_4 (by decide) ?_
  refine jd_mg2 13 (.int (jd_b ((¬ (dread < 5))))) (fun hj1 => ?_) ?_
  · refine jd_icmp_lt (tgt := 12) dX11_isNightmare_5 (by decide) (fun z2 => ?_) (fun z3 => ?_)
    · refine jd_iconst (v := 0) dX11_isNightmare_12 (by decide) ?_
      exact jd_top (congrArg Value.int (jd_b0 (fun w => w z2)).symm) hj1
    · refine jd_iconst (v := 1) dX11_isNightmare_8 (by decide) ?_
      refine jd_goto (tgt := 13) dX11_isNightmare_9 (by decide) ?_
      exact jd_top (congrArg Value.int (jd_b1 z3).symm) hj1
  · exact jd_zret dX11_isNightmare_13 rfl (jd_b01 _) ⟨rfl, rfl⟩

set_option maxRecDepth 20000 in
set_option maxHeartbeats 2000000 in
theorem ct_X11_isGone {G : jd_G} {h : jd_H} {i : jd_Id} {a : Nat} {dream worth dread head store by_ : Int32} {fate : Nat} (ho : h i = some (a, .inl (.inr (5, [.int (dream), .int (worth), .int (dread), .int (head), .int (store), .ref (fate), .int (by_)])))) : jd_Ct G mX11_isGone 0 (0) (0) [.ref (a)] h (jd_pu h (.int (jd_b (((head = (-1)) ∧ (store = (-1))))))) jd_no := by
  refine jd_ct (ls := [some (.ref (a))]) rfl rfl (by decide) (Nat.le_of_ble_eq_true rfl) rfl ?_
  refine jd_aload_n dX11_isGone_0 rfl ?_
  refine jd_get in_X11 ho 3 q907 dX11_isGone_1 rfl (Nat.le_of_ble_eq_true rfl) rfl ?_
  refine jd_iconst (v := (-1)) dX11_isGone_4 (by decide) ?_
  refine jd_mg2 21 (.int (jd_b (((head = (-1)) ∧ (store = (-1)))))) (fun hj1 => ?_) ?_
  · refine jd_icmp_ne (tgt := 20) dX11_isGone_5 (by decide) (fun z2 => ?_) (fun z3 => ?_)
    · refine jd_iconst (v := 0) dX11_isGone_20 (by decide) ?_
      exact jd_top (congrArg Value.int (jd_b0 (fun w => z2 w.1)).symm) hj1
    · refine jd_aload_n dX11_isGone_8 rfl ?_
      refine jd_get in_X11 ho 4 q909 dX11_isGone_9 rfl (Nat.le_of_ble_eq_true rfl) rfl ?_
      refine jd_iconst (v := (-1)) dX11_isGone_12 (by decide) ?_
      refine jd_icmp_ne (tgt := 20) dX11_isGone_13 (by decide) (fun z4 => ?_) (fun z5 => ?_)
      · refine jd_iconst (v := 0) dX11_isGone_20 (by decide) ?_
        exact jd_top (congrArg Value.int (jd_b0 (fun w => z4 w.2)).symm) hj1
      · refine jd_iconst (v := 1) dX11_isGone_16 (by decide) ?_
        refine jd_goto (tgt := 21) dX11_isGone_17 (by decide) ?_
        exact jd_top (congrArg Value.int (jd_b1 ⟨z3, z5⟩).symm) hj1
  · exact jd_zret dX11_isGone_21 rfl (jd_b01 _) ⟨rfl, rfl⟩

set_option maxRecDepth 20000 in
set_option maxHeartbeats 2000000 in
theorem ct_X3_duty {G : jd_G} {h : jd_H} {i : jd_Id} {a : Nat} {rate allowance quota nightmares duties fines : Int32} (ho : h i = some (a, .inl (.inr (2, [.int (rate), .int (allowance), .int (quota), .int (nightmares), .int (duties), .int (fines)])))) (worth : Int32) : jd_Ct G mX3_duty 0 (0) (0) [.ref (a), .int (worth)] h (jd_pu h (.int (if allowance < worth then (((worth - allowance) * rate) / 100) else 0))) jd_no := by
  refine jd_ct (ls := [some (.ref (a)), some (.int (worth))]) rfl rfl (by decide) (Nat.le_of_ble_eq_true rfl) rfl ?_
  refine jd_iload_n dX3_duty_0 rfl ?_
  refine jd_aload_n dX3_duty_1 rfl ?_
  refine jd_get in_X3 ho 1 q183 dX3_duty_2 rfl (Nat.le_of_ble_eq_true rfl) rfl ?_
  refine jd_mg2 26 (.int (if allowance < worth then (((worth - allowance) * rate) / 100) else 0)) (fun hj1 => ?_) ?_
  · refine jd_icmp_gt (tgt := 12) dX3_duty_5 (by decide) (fun z2 => ?_) (fun z3 => ?_)
    · refine jd_iload_n dX3_duty_12 rfl ?_
      refine jd_aload_n dX3_duty_13 rfl ?_
      refine jd_get in_X3 ho 1 q183 dX3_duty_14 rfl (Nat.le_of_ble_eq_true rfl) rfl ?_
      refine jd_isub dX3_duty_17 ?_
      refine jd_aload_n dX3_duty_18 rfl ?_
      refine jd_get in_X3 ho 0 q181 dX3_duty_19 rfl (Nat.le_of_ble_eq_true rfl) rfl ?_
      refine jd_imul dX3_duty_22 ?_
      refine jd_bipush (v := 100) dX3_duty_23 (by decide) ?_
      refine jd_idiv dX3_duty_25 (by decide) ?_
      exact jd_top (congrArg Value.int (by rw [if_pos z2])) hj1
    · refine jd_iconst (v := 0) dX3_duty_8 (by decide) ?_
      refine jd_goto (tgt := 26) dX3_duty_9 (by decide) ?_
      exact jd_top (congrArg Value.int (by rw [if_neg z3])) hj1
  · exact jd_iret dX3_duty_26 rfl ⟨rfl, rfl⟩

set_option maxRecDepth 20000 in
set_option maxHeartbeats 2000000 in
theorem ct_X9_right {G : jd_G} {h : jd_H} {i : jd_Id} {a : Nat} {number isBaby land patience gate declares : Int32} {rest pass : Nat} (ho : h i = some (a, .inl (.inr (4, [.int (number), .int (isBaby), .int (land), .int (patience), .ref (rest), .int (gate), .int (declares), .ref (pass)])))) (itsGate : Int32) (night : Int32) : jd_Ct G mX9_right 0 (0) (0) [.ref (a), .int (itsGate), .int (night)] h (jd_pu h (.int ((jd_rem ((((13 * number) + (29 * itsGate)) + (7 * night))) (97))))) jd_no := by
  refine jd_ct (ls := [some (.ref (a)), some (.int (itsGate)), some (.int (night))]) rfl rfl (by decide) (Nat.le_of_ble_eq_true rfl) rfl ?_
  refine jd_bipush (v := 13) dX9_right_0 (by decide) ?_
  refine jd_aload_n dX9_right_2 rfl ?_
  refine jd_get in_X9 ho 0 q848 dX9_right_3 rfl (Nat.le_of_ble_eq_true rfl) rfl ?_
  refine jd_imul dX9_right_6 ?_
  refine jd_bipush (v := 29) dX9_right_7 (by decide) ?_
  refine jd_iload_n dX9_right_9 rfl ?_
  refine jd_imul dX9_right_10 ?_
  refine jd_iadd dX9_right_11 ?_
  refine jd_bipush (v := 7) dX9_right_12 (by decide) ?_
  refine jd_iload_n dX9_right_14 rfl ?_
  refine jd_imul dX9_right_15 ?_
  refine jd_iadd dX9_right_16 ?_
  refine jd_bipush (v := 97) dX9_right_17 (by decide) ?_
  refine jd_irem dX9_right_19 (by decide) ?_
  exact jd_iret dX9_right_20 rfl ⟨rfl, rfl⟩

set_option maxRecDepth 20000 in
set_option maxHeartbeats 2000000 in
theorem ct_X8_isOpen {G : jd_G} {h : jd_H} {i : jd_Id} {a : Nat} {one other fr hours odds watch : Int32} {qu rv : Nat} (ho : h i = some (a, .inl (.inr (11, [.int (one), .int (other), .int (fr), .int (hours), .int (odds), .int (watch), .ref (qu), .ref (rv)])))) (hour : Int32) : jd_Ct G mX8_isOpen 0 (0) (0) [.ref (a), .int (hour)] h (jd_pu h (.int (jd_b ((¬ (hours ≤ (jd_rem (((hour + 24) - fr)) (24)))))))) jd_no := by
  refine jd_ct (ls := [some (.ref (a)), some (.int (hour))]) rfl rfl (by decide) (Nat.le_of_ble_eq_true rfl) rfl ?_
  refine jd_iload_n dX8_isOpen_0 rfl ?_
  refine jd_bipush (v := 24) dX8_isOpen_1 (by decide) ?_
  refine jd_iadd dX8_isOpen_3 ?_
  refine jd_aload_n dX8_isOpen_4 rfl ?_
  refine jd_get in_X8 ho 2 q1546 dX8_isOpen_5 rfl (Nat.le_of_ble_eq_true rfl) rfl ?_
  refine jd_isub dX8_isOpen_8 ?_
  refine jd_bipush (v := 24) dX8_isOpen_9 (by decide) ?_
  refine jd_irem dX8_isOpen_11 (by decide) ?_
  refine jd_aload_n dX8_isOpen_12 rfl ?_
  refine jd_get in_X8 ho 3 q1548 dX8_isOpen_13 rfl (Nat.le_of_ble_eq_true rfl) rfl ?_
  refine jd_mg2 24 (.int (jd_b ((¬ (hours ≤ (jd_rem (((hour + 24) - fr)) (24))))))) (fun hj1 => ?_) ?_
  · refine jd_icmp_ge (tgt := 23) dX8_isOpen_16 (by decide) (fun z2 => ?_) (fun z3 => ?_)
    · refine jd_iconst (v := 0) dX8_isOpen_23 (by decide) ?_
      exact jd_top (congrArg Value.int (jd_b0 (fun w => w z2)).symm) hj1
    · refine jd_iconst (v := 1) dX8_isOpen_19 (by decide) ?_
      refine jd_goto (tgt := 24) dX8_isOpen_20 (by decide) ?_
      exact jd_top (congrArg Value.int (jd_b1 z3).symm) hj1
  · exact jd_zret dX8_isOpen_24 rfl (jd_b01 _) ⟨rfl, rfl⟩

set_option maxRecDepth 20000 in
set_option maxHeartbeats 2000000 in
theorem ct_X8_dozes {G : jd_G} {h : jd_H} {i : jd_Id} {a : Nat} {one other fr hours odds watch : Int32} {qu rv : Nat} (ho : h i = some (a, .inl (.inr (11, [.int (one), .int (other), .int (fr), .int (hours), .int (odds), .int (watch), .ref (qu), .ref (rv)])))) : jd_Ct G mX8_dozes 0 (0) (0) [.ref (a)] h (jd_pu h (.int (jd_b ((¬ (watch < 5)))))) jd_no := by
  refine jd_ct (ls := [some (.ref (a))]) rfl rfl (by decide) (Nat.le_of_ble_eq_true rfl) rfl ?_
  refine jd_aload_n dX8_dozes_0 rfl ?_
  refine jd_get in_X8 ho 5 q1552 dX8_dozes_1 rfl (Nat.le_of_ble_eq_true rfl) rfl ?_
  refine jd_iconst (v := 5) dX8_dozes_4 (by decide) ?_
  refine jd_mg2 13 (.int (jd_b ((¬ (watch < 5))))) (fun hj1 => ?_) ?_
  · refine jd_icmp_lt (tgt := 12) dX8_dozes_5 (by decide) (fun z2 => ?_) (fun z3 => ?_)
    · refine jd_iconst (v := 0) dX8_dozes_12 (by decide) ?_
      exact jd_top (congrArg Value.int (jd_b0 (fun w => w z2)).symm) hj1
    · refine jd_iconst (v := 1) dX8_dozes_8 (by decide) ?_
      refine jd_goto (tgt := 13) dX8_dozes_9 (by decide) ?_
      exact jd_top (congrArg Value.int (jd_b1 z3).symm) hj1
  · exact jd_zret dX8_dozes_13 rfl (jd_b01 _) ⟨rfl, rfl⟩

set_option maxRecDepth 20000 in
set_option maxHeartbeats 2000000 in
theorem ct_X8_has {G : jd_G} {h : jd_H} {i : jd_Id} {a : Nat} {one other fr hours odds watch : Int32} {qu rv : Nat} (ho : h i = some (a, .inl (.inr (11, [.int (one), .int (other), .int (fr), .int (hours), .int (odds), .int (watch), .ref (qu), .ref (rv)])))) (land : Int32) : jd_Ct G mX8_has 0 (0) (0) [.ref (a), .int (land)] h (jd_pu h (.int (jd_b (((one = land) ∨ (other = land)))))) jd_no := by
  refine jd_ct (ls := [some (.ref (a)), some (.int (land))]) rfl rfl (by decide) (Nat.le_of_ble_eq_true rfl) rfl ?_
  refine jd_aload_n dX8_has_0 rfl ?_
  refine jd_get in_X8 ho 0 q1542 dX8_has_1 rfl (Nat.le_of_ble_eq_true rfl) rfl ?_
  refine jd_iload_n dX8_has_4 rfl ?_
  refine jd_mg2 21 (.int (jd_b (((one = land) ∨ (other = land))))) (fun hj1 => ?_) ?_
  · refine jd_icmp_eq (tgt := 16) dX8_has_5 (by decide) (fun z2 => ?_) (fun z3 => ?_)
    · refine jd_iconst (v := 1) dX8_has_16 (by decide) ?_
      refine jd_goto (tgt := 21) dX8_has_17 (by decide) ?_
      exact jd_top (congrArg Value.int (jd_b1 (Or.inl z2)).symm) hj1
    · refine jd_aload_n dX8_has_8 rfl ?_
      refine jd_get in_X8 ho 1 q1544 dX8_has_9 rfl (Nat.le_of_ble_eq_true rfl) rfl ?_
      refine jd_iload_n dX8_has_12 rfl ?_
      refine jd_icmp_ne (tgt := 20) dX8_has_13 (by decide) (fun z4 => ?_) (fun z5 => ?_)
      · refine jd_iconst (v := 0) dX8_has_20 (by decide) ?_
        exact jd_top (congrArg Value.int (jd_b0 (fun w => w.elim z3 z4)).symm) hj1
      · refine jd_iconst (v := 1) dX8_has_16 (by decide) ?_
        refine jd_goto (tgt := 21) dX8_has_17 (by decide) ?_
        exact jd_top (congrArg Value.int (jd_b1 (Or.inr z5)).symm) hj1
  · exact jd_zret dX8_has_21 rfl (jd_b01 _) ⟨rfl, rfl⟩

set_option maxRecDepth 20000 in
set_option maxHeartbeats 2000000 in
theorem ct_X8_beyond {G : jd_G} {h : jd_H} {i : jd_Id} {a : Nat} {one other fr hours odds watch : Int32} {qu rv : Nat} (ho : h i = some (a, .inl (.inr (11, [.int (one), .int (other), .int (fr), .int (hours), .int (odds), .int (watch), .ref (qu), .ref (rv)])))) (land : Int32) : jd_Ct G mX8_beyond 0 (0) (0) [.ref (a), .int (land)] h (jd_pu h (.int (if one = land then other else one))) jd_no := by
  refine jd_ct (ls := [some (.ref (a)), some (.int (land))]) rfl rfl (by decide) (Nat.le_of_ble_eq_true rfl) rfl ?_
  refine jd_aload_n dX8_beyond_0 rfl ?_
  refine jd_get in_X8 ho 0 q1542 dX8_beyond_1 rfl (Nat.le_of_ble_eq_true rfl) rfl ?_
  refine jd_iload_n dX8_beyond_4 rfl ?_
  refine jd_mg2 19 (.int (if one = land then other else one)) (fun hj1 => ?_) ?_
  · refine jd_icmp_ne (tgt := 15) dX8_beyond_5 (by decide) (fun z2 => ?_) (fun z3 => ?_)
    · refine jd_aload_n dX8_beyond_15 rfl ?_
      refine jd_get in_X8 ho 0 q1542 dX8_beyond_16 rfl (Nat.le_of_ble_eq_true rfl) rfl ?_
      exact jd_top (congrArg Value.int (by rw [if_neg z2])) hj1
    · refine jd_aload_n dX8_beyond_8 rfl ?_
      refine jd_get in_X8 ho 1 q1544 dX8_beyond_9 rfl (Nat.le_of_ble_eq_true rfl) rfl ?_
      refine jd_goto (tgt := 19) dX8_beyond_12 (by decide) ?_
      exact jd_top (congrArg Value.int (by rw [if_pos z3])) hj1
  · exact jd_iret dX8_beyond_19 rfl ⟨rfl, rfl⟩

set_option maxRecDepth 20000 in
set_option maxHeartbeats 2000000 in
theorem ct_X12_isNightmare {G : jd_G} {h : jd_H} {i : jd_Id} {a : Nat} {dream worth dread fate at_ brought : Int32} (ho : h i = some (a, .inl (.inr (13, [.int (dream), .int (worth), .int (dread), .int (fate), .int (at_), .int (brought)])))) : jd_Ct G mX12_isNightmare 0 (0) (0) [.ref (a)] h (jd_pu h (.int (jd_b ((¬ (dread < 5)))))) jd_no := by
  refine jd_ct (ls := [some (.ref (a))]) rfl rfl (by decide) (Nat.le_of_ble_eq_true rfl) rfl ?_
  refine jd_aload_n dX12_isNightmare_0 rfl ?_
  refine jd_get in_X12 ho 2 q1646 dX12_isNightmare_1 rfl (Nat.le_of_ble_eq_true rfl) rfl ?_
  refine jd_iconst (v := 5) dX12_isNightmare_4 (by decide) ?_
  refine jd_mg2 13 (.int (jd_b ((¬ (dread < 5))))) (fun hj1 => ?_) ?_
  · refine jd_icmp_lt (tgt := 12) dX12_isNightmare_5 (by decide) (fun z2 => ?_) (fun z3 => ?_)
    · refine jd_iconst (v := 0) dX12_isNightmare_12 (by decide) ?_
      exact jd_top (congrArg Value.int (jd_b0 (fun w => w z2)).symm) hj1
    · refine jd_iconst (v := 1) dX12_isNightmare_8 (by decide) ?_
      refine jd_goto (tgt := 13) dX12_isNightmare_9 (by decide) ?_
      exact jd_top (congrArg Value.int (jd_b1 z3).symm) hj1
  · exact jd_zret dX12_isNightmare_13 rfl (jd_b01 _) ⟨rfl, rfl⟩

set_option maxRecDepth 20000 in
set_option maxHeartbeats 2000000 in
theorem ct_X1_has {G : jd_G} {h : jd_H} (set k : Int32) : jd_Ct G mX1_has 0 (0) (0) [.int (set), .int (k)] h (jd_pu h (.int (jd_b ((((set >>> (k &&& 31)) &&& 1) = 1))))) jd_no := by
  refine jd_ct (ls := [some (.int (set)), some (.int (k))]) rfl rfl (by decide) (Nat.le_of_ble_eq_true rfl) rfl ?_
  refine jd_iload_n dX1_has_0 rfl ?_
  refine jd_iload_n dX1_has_1 rfl ?_
  refine jd_ishr dX1_has_2 ?_
  refine jd_iconst (v := 1) dX1_has_3 (by decide) ?_
  refine jd_iand dX1_has_4 ?_
  refine jd_iconst (v := 1) dX1_has_5 (by decide) ?_
  refine jd_mg2 14 (.int (jd_b ((((set >>> (k &&& 31)) &&& 1) = 1)))) (fun hj1 => ?_) ?_
  · refine jd_icmp_ne (tgt := 13) dX1_has_6 (by decide) (fun z2 => ?_) (fun z3 => ?_)
    · refine jd_iconst (v := 0) dX1_has_13 (by decide) ?_
      exact jd_top (congrArg Value.int (jd_b0 z2).symm) hj1
    · refine jd_iconst (v := 1) dX1_has_9 (by decide) ?_
      refine jd_goto (tgt := 14) dX1_has_10 (by decide) ?_
      exact jd_top (congrArg Value.int (jd_b1 z3).symm) hj1
  · exact jd_zret dX1_has_14 rfl (jd_b01 _) ⟨rfl, rfl⟩

set_option maxRecDepth 20000 in
set_option maxHeartbeats 2000000 in
theorem ct_X4_is {G : jd_G} {h : jd_H} (value low high : Int32) : jd_Ct G mX4_is 0 (0) (0) [.int (value), .int (low), .int (high)] h (jd_pu h (.int (jd_b ((¬ (value < low) ∧ (¬ (high < value))))))) jd_no := by
  refine jd_ct (ls := [some (.int (value)), some (.int (low)), some (.int (high))]) rfl rfl (by decide) (Nat.le_of_ble_eq_true rfl) rfl ?_
  refine jd_iload_n dX4_is_0 rfl ?_
  refine jd_iload_n dX4_is_1 rfl ?_
  refine jd_mg2 15 (.int (jd_b ((¬ (value < low) ∧ (¬ (high < value)))))) (fun hj1 => ?_) ?_
  · refine jd_icmp_lt (tgt := 14) dX4_is_2 (by decide) (fun z2 => ?_) (fun z3 => ?_)
    · refine jd_iconst (v := 0) dX4_is_14 (by decide) ?_
      exact jd_top (congrArg Value.int (jd_b0 (fun w => w.1 z2)).symm) hj1
    · refine jd_iload_n dX4_is_5 rfl ?_
      refine jd_iload_n dX4_is_6 rfl ?_
      refine jd_icmp_gt (tgt := 14) dX4_is_7 (by decide) (fun z4 => ?_) (fun z5 => ?_)
      · refine jd_iconst (v := 0) dX4_is_14 (by decide) ?_
        exact jd_top (congrArg Value.int (jd_b0 (fun w => (fun w => w z4) w.2)).symm) hj1
      · refine jd_iconst (v := 1) dX4_is_10 (by decide) ?_
        refine jd_goto (tgt := 15) dX4_is_11 (by decide) ?_
        exact jd_top (congrArg Value.int (jd_b1 ⟨z3, z5⟩).symm) hj1
  · exact jd_zret dX4_is_15 rfl (jd_b01 _) ⟨rfl, rfl⟩

set_option maxRecDepth 20000 in
set_option maxHeartbeats 2000000 in
theorem ct_X4_right {G : jd_G} {h : jd_H} (sl gt nt : Int32) : jd_Ct G mX4_right 0 (0) (0) [.int (sl), .int (gt), .int (nt)] h (jd_pu h (.int ((jd_rem ((((13 * sl) + (29 * gt)) + (7 * nt))) (97))))) jd_no := by
  refine jd_ct (ls := [some (.int (sl)), some (.int (gt)), some (.int (nt))]) rfl rfl (by decide) (Nat.le_of_ble_eq_true rfl) rfl ?_
  refine jd_bipush (v := 13) dX4_right_0 (by decide) ?_
  refine jd_iload_n dX4_right_2 rfl ?_
  refine jd_imul dX4_right_3 ?_
  refine jd_bipush (v := 29) dX4_right_4 (by decide) ?_
  refine jd_iload_n dX4_right_6 rfl ?_
  refine jd_imul dX4_right_7 ?_
  refine jd_iadd dX4_right_8 ?_
  refine jd_bipush (v := 7) dX4_right_9 (by decide) ?_
  refine jd_iload_n dX4_right_11 rfl ?_
  refine jd_imul dX4_right_12 ?_
  refine jd_iadd dX4_right_13 ?_
  refine jd_bipush (v := 97) dX4_right_14 (by decide) ?_
  refine jd_irem dX4_right_16 (by decide) ?_
  exact jd_iret dX4_right_17 rfl ⟨rfl, rfl⟩
