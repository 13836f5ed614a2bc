/-! the law: wrappers (printed by mk_c.py) -/
set_option maxRecDepth 20000 in
set_option maxHeartbeats 2000000 in
theorem ct_X0_land {G : jd_G} {β : ll_B} {κ : ll_K} {h : jd_H} (hw : WC G β κ h) (hI : ll_I κ) {oA : Nat} {n0 : Int64} {sv : Value} (ho : WO oA n0 sv h) (l : Int32) (r : Int32) (a : Int32) : jd_Ct G mX0_land 13 (4) (24) [.ref (β 0 0), .int (l), .int (r), .int (a), .ref (oA)] h (jd_wr G β κ h oA sv (c_land l r a) (lRate κ (tN l)) (k_land κ (tN l) r a)) jd_no := by
  refine jd_ctH (ls := [some (.ref (β 0 0)), some (.int (l)), some (.int (r)), some (.int (a)), some (.ref (oA)), none]) rfl rfl (by decide) (Nat.le_of_ble_eq_true rfl) rfl ?_
  refine jd_aload dX0_land_0 rfl ?_
  refine jd_aload_n dX0_land_2 rfl ?_
  refine jd_iload_n dX0_land_3 rfl ?_
  refine jd_iload_n dX0_land_4 rfl ?_
  refine jd_iload_n dX0_land_5 rfl ?_
  have hkx : ∀ (E : String) (h2 : jd_H), (jd_th h (c_land l r a) nmA) E h2 → jd_X G mX0_land 13 (4 - 4) (24 - 24) 6 [some (.ref (β 0 0)), some (.int (l)), some (.int (r)), some (.int (a)), some (.ref (oA)), none] E h2 (jd_wr G β κ h oA sv (c_land l r a) (lRate κ (tN l)) (k_land κ (tN l) r a)) jd_no := by
    intro E h2 hx
    obtain ⟨hc, hE, he⟩ := hx
    rw [hE, he]
    have hle := le_land l r a
    rcases (by omega : c_land l r a = 1 ∨ c_land l r a = 2) with e | e
    · rw [e]
      refine jd_catch (E := "java/lang/IndexOutOfBoundsException") [] (0, 13, 16, 19) [(0, 13, 20, 21)] rfl (fun z hz => absurd hz List.not_mem_nil) (by decide) (by decide) q608 q699 (fun q => ?_)
      show jd_W _ _ _ _ _ 16 _ _ _ _ _
      refine jd_astore (ls' := [_, _, _, _, _, _]) dX0_land_16 (Nat.le_of_ble_eq_true rfl) rfl rfl ?_
      refine jd_iconst (v := 1) dX0_land_18 (by decide) ?_
      exact jd_iret dX0_land_19 rfl (jd_wr.no rfl (by decide) rfl hw ho)
    · rw [e]
      refine jd_catch (E := "java/lang/IllegalArgumentException") [(0, 13, 16, 19)] (0, 13, 20, 21) [] rfl (List.forall_mem_cons.mpr ⟨⟨by decide, _, q608, jd_ncA⟩, (fun z hz => absurd hz List.not_mem_nil)⟩) (by decide) (by decide) q685 q726 (fun q => ?_)
      show jd_W _ _ _ _ _ 20 _ _ _ _ _
      refine jd_astore (ls' := [_, _, _, _, _, _]) dX0_land_20 (Nat.le_of_ble_eq_true rfl) rfl rfl ?_
      refine jd_iconst (v := 2) dX0_land_22 (by decide) ?_
      exact jd_iret dX0_land_23 rfl (jd_wr.no rfl (by decide) rfl hw ho)
  refine jd_callV (As := [.int (l), .int (r), .int (a)]) (rest := [.ref (oA)]) (ct_X1_land hw hI l r a) (jd_rv ((w_this hw)) 0 rfl rfl) rfl q686 q687 q688 q80 q689 nX1_land dX0_land_6 rfl rfl rfl (Nat.le_of_ble_eq_true rfl) ⟨(Nat.le_of_ble_eq_true rfl), (Nat.le_of_ble_eq_true rfl), by omega, by omega⟩ (fun rv0 hn0 hq0 => ?_) hkx
  obtain ⟨hc0, rfl, b2, hb2, hw2, hf2⟩ := hq0
  have ho2 := (hf2 (40, 0) (by decide)).trans ho.at
  refine jd_i2l dX0_land_9 ?_
  refine jd_putN (fs' := [_, _]) in_X6 tyX6_ok nmX6 ho2 0 q598 dX0_land_10 rfl (Nat.le_of_ble_eq_true rfl) rfl rfl rfl (Nat.le_of_ble_eq_true rfl) rfl ?_
  refine jd_updG (fun h9 hs9 ho9 => ?_)
  refine jd_goto (tgt := 24) dX0_land_13 (by decide) ?_
  refine jd_iconst (v := 0) dX0_land_24 (by decide) ?_
  exact jd_iret dX0_land_25 rfl (jd_wr.ok hc0 rfl hb2 (hw2.out ho9) hs9 rfl (fun j a b => (ho9 j (fun z => by rw [z] at b; exact absurd b (by decide))).trans (hf2 j a)))

set_option maxRecDepth 20000 in
set_option maxHeartbeats 2000000 in
theorem ct_X0_trade {G : jd_G} {β : ll_B} {κ : ll_K} {h : jd_H} (hw : WC G β κ h) (hI : ll_I κ) {oA : Nat} {n0 : Int64} {sv : Value} (ho : WO oA n0 sv h) (f : Int32) (t : Int32) (m : Int32) : jd_Ct G mX0_trade 13 (4) (24) [.ref (β 0 0), .int (f), .int (t), .int (m), .ref (oA)] h (jd_wr G β κ h oA sv (c_trade κ f t m) (lQuo (k_trade κ (tN f) (tN t) m) (tN t)) (k_trade κ (tN f) (tN t) m)) jd_no := by
  refine jd_ctH (ls := [some (.ref (β 0 0)), some (.int (f)), some (.int (t)), some (.int (m)), some (.ref (oA)), none]) rfl rfl (by decide) (Nat.le_of_ble_eq_true rfl) rfl ?_
  refine jd_aload dX0_trade_0 rfl ?_
  refine jd_aload_n dX0_trade_2 rfl ?_
  refine jd_iload_n dX0_trade_3 rfl ?_
  refine jd_iload_n dX0_trade_4 rfl ?_
  refine jd_iload_n dX0_trade_5 rfl ?_
  have hkx : ∀ (E : String) (h2 : jd_H), (jd_th h (c_trade κ f t m) nmA) E h2 → jd_X G mX0_trade 13 (4 - 4) (24 - 24) 6 [some (.ref (β 0 0)), some (.int (f)), some (.int (t)), some (.int (m)), some (.ref (oA)), none] E h2 (jd_wr G β κ h oA sv (c_trade κ f t m) (lQuo (k_trade κ (tN f) (tN t) m) (tN t)) (k_trade κ (tN f) (tN t) m)) jd_no := by
    intro E h2 hx
    obtain ⟨hc, hE, he⟩ := hx
    rw [hE, he]
    have hle := le_trade κ f t m
    rcases (by omega : c_trade κ f t m = 1 ∨ c_trade κ f t m = 2 ∨ c_trade κ f t m = 3) with e | e | e
    · rw [e]
      refine jd_catch (E := "java/lang/IndexOutOfBoundsException") [] (0, 13, 16, 19) [(0, 13, 20, 21), (0, 13, 24, 26)] rfl (fun z hz => absurd hz List.not_mem_nil) (by decide) (by decide) q608 q699 (fun q => ?_)
      show jd_W _ _ _ _ _ 16 _ _ _ _ _
      refine jd_astore (ls' := [_, _, _, _, _, _]) dX0_trade_16 (Nat.le_of_ble_eq_true rfl) rfl rfl ?_
      refine jd_iconst (v := 1) dX0_trade_18 (by decide) ?_
      exact jd_iret dX0_trade_19 rfl (jd_wr.no rfl (by decide) rfl hw ho)
    · rw [e]
      refine jd_catch (E := "java/lang/IllegalArgumentException") [(0, 13, 16, 19)] (0, 13, 20, 21) [(0, 13, 24, 26)] rfl (List.forall_mem_cons.mpr ⟨⟨by decide, _, q608, jd_ncA⟩, (fun z hz => absurd hz List.not_mem_nil)⟩) (by decide) (by decide) q685 q726 (fun q => ?_)
      show jd_W _ _ _ _ _ 20 _ _ _ _ _
      refine jd_astore (ls' := [_, _, _, _, _, _]) dX0_trade_20 (Nat.le_of_ble_eq_true rfl) rfl rfl ?_
      refine jd_iconst (v := 2) dX0_trade_22 (by decide) ?_
      exact jd_iret dX0_trade_23 rfl (jd_wr.no rfl (by decide) rfl hw ho)
    · rw [e]
      refine jd_catch (E := "java/lang/IllegalStateException") [(0, 13, 16, 19), (0, 13, 20, 21)] (0, 13, 24, 26) [] rfl (List.forall_mem_cons.mpr ⟨⟨by decide, _, q608, jd_ncB⟩, (List.forall_mem_cons.mpr ⟨⟨by decide, _, q685, jd_ncC⟩, (fun z hz => absurd hz List.not_mem_nil)⟩)⟩) (by decide) (by decide) q742 q752 (fun q => ?_)
      show jd_W _ _ _ _ _ 24 _ _ _ _ _
      refine jd_astore (ls' := [_, _, _, _, _, _]) dX0_trade_24 (Nat.le_of_ble_eq_true rfl) rfl rfl ?_
      refine jd_iconst (v := 3) dX0_trade_26 (by decide) ?_
      exact jd_iret dX0_trade_27 rfl (jd_wr.no rfl (by decide) rfl hw ho)
  refine jd_callV (As := [.int (f), .int (t), .int (m)]) (rest := [.ref (oA)]) (ct_X1_trade hw hI f t m) (jd_rv ((w_this hw)) 0 rfl rfl) rfl q743 q744 q745 q80 q746 nX1_trade dX0_trade_6 rfl rfl rfl (Nat.le_of_ble_eq_true rfl) ⟨(Nat.le_of_ble_eq_true rfl), (Nat.le_of_ble_eq_true rfl), by omega, by omega⟩ (fun rv0 hn0 hq0 => ?_) hkx
  obtain ⟨hc0, rfl, b2, hb2, hw2, hf2⟩ := hq0
  have ho2 := (hf2 (40, 0) (by decide)).trans ho.at
  refine jd_i2l dX0_trade_9 ?_
  refine jd_putN (fs' := [_, _]) in_X6 tyX6_ok nmX6 ho2 0 q598 dX0_trade_10 rfl (Nat.le_of_ble_eq_true rfl) rfl rfl rfl (Nat.le_of_ble_eq_true rfl) rfl ?_
  refine jd_updG (fun h9 hs9 ho9 => ?_)
  refine jd_goto (tgt := 28) dX0_trade_13 (by decide) ?_
  refine jd_iconst (v := 0) dX0_trade_28 (by decide) ?_
  exact jd_iret dX0_trade_29 rfl (jd_wr.ok hc0 rfl hb2 (hw2.out ho9) hs9 rfl (fun j a b => (ho9 j (fun z => by rw [z] at b; exact absurd b (by decide))).trans (hf2 j a)))

set_option maxRecDepth 20000 in
set_option maxHeartbeats 2000000 in
theorem ct_X0_gate {G : jd_G} {β : ll_B} {κ : ll_K} {h : jd_H} (hw : WC G β κ h) (hI : ll_I κ) {oA : Nat} {n0 : Int64} {sv : Value} (ho : WO oA n0 sv h) (o1 : Int32) (o2 : Int32) (fr : Int32) (hr : Int32) : jd_Ct G mX0_gate 13 (12) (240) [.ref (β 0 0), .int (o1), .int (o2), .int (fr), .int (hr), .ref (oA)] h (jd_wr G β κ h oA sv (c_gate κ o1 o2 fr hr) (nI (nG κ)) (k_addG κ (tN o1) (tN o2) fr hr)) jd_no := by
  refine jd_ctH (ls := [some (.ref (β 0 0)), some (.int (o1)), some (.int (o2)), some (.int (fr)), some (.int (hr)), some (.ref (oA)), none]) rfl rfl (by decide) (Nat.le_of_ble_eq_true rfl) rfl ?_
  refine jd_aload dX0_gate_0 rfl ?_
  refine jd_aload_n dX0_gate_2 rfl ?_
  refine jd_iload_n dX0_gate_3 rfl ?_
  refine jd_iload_n dX0_gate_4 rfl ?_
  refine jd_iload_n dX0_gate_5 rfl ?_
  refine jd_iload dX0_gate_6 rfl ?_
  have hkx : ∀ (E : String) (h2 : jd_H), (jd_th h (c_gate κ o1 o2 fr hr) nmA) E h2 → jd_X G mX0_gate 13 (12 - 12) (240 - 240) 8 [some (.ref (β 0 0)), some (.int (o1)), some (.int (o2)), some (.int (fr)), some (.int (hr)), some (.ref (oA)), none] E h2 (jd_wr G β κ h oA sv (c_gate κ o1 o2 fr hr) (nI (nG κ)) (k_addG κ (tN o1) (tN o2) fr hr)) jd_no := by
    intro E h2 hx
    obtain ⟨hc, hE, he⟩ := hx
    rw [hE, he]
    have hle := le_gate κ o1 o2 fr hr
    rcases (by omega : c_gate κ o1 o2 fr hr = 1 ∨ c_gate κ o1 o2 fr hr = 2 ∨ c_gate κ o1 o2 fr hr = 3) with e | e | e
    · rw [e]
      refine jd_catch (E := "java/lang/IndexOutOfBoundsException") [] (0, 15, 18, 19) [(0, 15, 22, 21), (0, 15, 26, 26)] rfl (fun z hz => absurd hz List.not_mem_nil) (by decide) (by decide) q608 q699 (fun q => ?_)
      show jd_W _ _ _ _ _ 18 _ _ _ _ _
      refine jd_astore (ls' := [_, _, _, _, _, _, _]) dX0_gate_18 (Nat.le_of_ble_eq_true rfl) rfl rfl ?_
      refine jd_iconst (v := 1) dX0_gate_20 (by decide) ?_
      exact jd_iret dX0_gate_21 rfl (jd_wr.no rfl (by decide) rfl hw ho)
    · rw [e]
      refine jd_catch (E := "java/lang/IllegalArgumentException") [(0, 15, 18, 19)] (0, 15, 22, 21) [(0, 15, 26, 26)] rfl (List.forall_mem_cons.mpr ⟨⟨by decide, _, q608, jd_ncA⟩, (fun z hz => absurd hz List.not_mem_nil)⟩) (by decide) (by decide) q685 q726 (fun q => ?_)
      show jd_W _ _ _ _ _ 22 _ _ _ _ _
      refine jd_astore (ls' := [_, _, _, _, _, _, _]) dX0_gate_22 (Nat.le_of_ble_eq_true rfl) rfl rfl ?_
      refine jd_iconst (v := 2) dX0_gate_24 (by decide) ?_
      exact jd_iret dX0_gate_25 rfl (jd_wr.no rfl (by decide) rfl hw ho)
    · rw [e]
      refine jd_catch (E := "java/lang/IllegalStateException") [(0, 15, 18, 19), (0, 15, 22, 21)] (0, 15, 26, 26) [] rfl (List.forall_mem_cons.mpr ⟨⟨by decide, _, q608, jd_ncB⟩, (List.forall_mem_cons.mpr ⟨⟨by decide, _, q685, jd_ncC⟩, (fun z hz => absurd hz List.not_mem_nil)⟩)⟩) (by decide) (by decide) q742 q752 (fun q => ?_)
      show jd_W _ _ _ _ _ 26 _ _ _ _ _
      refine jd_astore (ls' := [_, _, _, _, _, _, _]) dX0_gate_26 (Nat.le_of_ble_eq_true rfl) rfl rfl ?_
      refine jd_iconst (v := 3) dX0_gate_28 (by decide) ?_
      exact jd_iret dX0_gate_29 rfl (jd_wr.no rfl (by decide) rfl hw ho)
  refine jd_callV (As := [.int (o1), .int (o2), .int (fr), .int (hr)]) (rest := [.ref (oA)]) (ct_X1_gate hw hI o1 o2 fr hr) (jd_rv ((w_this hw)) 0 rfl rfl) rfl q768 q769 q770 q80 q771 nX1_gate dX0_gate_8 rfl rfl rfl (Nat.le_of_ble_eq_true rfl) ⟨(Nat.le_of_ble_eq_true rfl), (Nat.le_of_ble_eq_true rfl), by omega, by omega⟩ (fun rv0 hn0 hq0 => ?_) hkx
  obtain ⟨hc0, rfl, b2, hb2, hw2, hf2⟩ := hq0
  have ho2 := (hf2 (40, 0) (by decide)).trans ho.at
  refine jd_i2l dX0_gate_11 ?_
  refine jd_putN (fs' := [_, _]) in_X6 tyX6_ok nmX6 ho2 0 q598 dX0_gate_12 rfl (Nat.le_of_ble_eq_true rfl) rfl rfl rfl (Nat.le_of_ble_eq_true rfl) rfl ?_
  refine jd_updG (fun h9 hs9 ho9 => ?_)
  refine jd_goto (tgt := 30) dX0_gate_15 (by decide) ?_
  refine jd_iconst (v := 0) dX0_gate_30 (by decide) ?_
  exact jd_iret dX0_gate_31 rfl (jd_wr.ok hc0 rfl hb2 (hw2.out ho9) hs9 rfl (fun j a b => (ho9 j (fun z => by rw [z] at b; exact absurd b (by decide))).trans (hf2 j a)))

set_option maxRecDepth 20000 in
set_option maxHeartbeats 2000000 in
theorem ct_X0_odds {G : jd_G} {β : ll_B} {κ : ll_K} {h : jd_H} (hw : WC G β κ h) (hI : ll_I κ) {oA : Nat} {n0 : Int64} {sv : Value} (ho : WO oA n0 sv h) (g : Int32) (o : Int32) : jd_Ct G mX0_odds 13 (4) (24) [.ref (β 0 0), .int (g), .int (o), .ref (oA)] h (jd_wr G β κ h oA sv (c_odds κ g o) (gOdds κ (tN g)) (ll_sz κ 9 (tN g) o)) jd_no := by
  refine jd_ctH (ls := [some (.ref (β 0 0)), some (.int (g)), some (.int (o)), some (.ref (oA)), none]) rfl rfl (by decide) (Nat.le_of_ble_eq_true rfl) rfl ?_
  refine jd_aload_n dX0_odds_0 rfl ?_
  refine jd_aload_n dX0_odds_1 rfl ?_
  refine jd_iload_n dX0_odds_2 rfl ?_
  refine jd_iload_n dX0_odds_3 rfl ?_
  have hkx : ∀ (E : String) (h2 : jd_H), (jd_th h (c_odds κ g o) nmA) E h2 → jd_X G mX0_odds 13 (4 - 4) (24 - 24) 4 [some (.ref (β 0 0)), some (.int (g)), some (.int (o)), some (.ref (oA)), none] E h2 (jd_wr G β κ h oA sv (c_odds κ g o) (gOdds κ (tN g)) (ll_sz κ 9 (tN g) o)) jd_no := by
    intro E h2 hx
    obtain ⟨hc, hE, he⟩ := hx
    rw [hE, he]
    have hle := le_odds κ g o
    rcases (by omega : c_odds κ g o = 1 ∨ c_odds κ g o = 2) with e | e
    · rw [e]
      refine jd_catch (E := "java/lang/IndexOutOfBoundsException") [] (0, 11, 14, 19) [(0, 11, 18, 21)] rfl (fun z hz => absurd hz List.not_mem_nil) (by decide) (by decide) q608 q699 (fun q => ?_)
      show jd_W _ _ _ _ _ 14 _ _ _ _ _
      refine jd_astore (ls' := [_, _, _, _, _]) dX0_odds_14 (Nat.le_of_ble_eq_true rfl) rfl rfl ?_
      refine jd_iconst (v := 1) dX0_odds_16 (by decide) ?_
      exact jd_iret dX0_odds_17 rfl (jd_wr.no rfl (by decide) rfl hw ho)
    · rw [e]
      refine jd_catch (E := "java/lang/IllegalArgumentException") [(0, 11, 14, 19)] (0, 11, 18, 21) [] rfl (List.forall_mem_cons.mpr ⟨⟨by decide, _, q608, jd_ncA⟩, (fun z hz => absurd hz List.not_mem_nil)⟩) (by decide) (by decide) q685 q726 (fun q => ?_)
      show jd_W _ _ _ _ _ 18 _ _ _ _ _
      refine jd_astore (ls' := [_, _, _, _, _]) dX0_odds_18 (Nat.le_of_ble_eq_true rfl) rfl rfl ?_
      refine jd_iconst (v := 2) dX0_odds_20 (by decide) ?_
      exact jd_iret dX0_odds_21 rfl (jd_wr.no rfl (by decide) rfl hw ho)
  refine jd_callV (As := [.int (g), .int (o)]) (rest := [.ref (oA)]) (ct_X1_odds hw hI g o) (jd_rv ((w_this hw)) 0 rfl rfl) rfl q814 q815 q816 q80 q817 nX1_odds dX0_odds_4 rfl rfl rfl (Nat.le_of_ble_eq_true rfl) ⟨(Nat.le_of_ble_eq_true rfl), (Nat.le_of_ble_eq_true rfl), by omega, by omega⟩ (fun rv0 hn0 hq0 => ?_) hkx
  obtain ⟨hc0, rfl, b2, hb2, hw2, hf2⟩ := hq0
  have ho2 := (hf2 (40, 0) (by decide)).trans ho.at
  refine jd_i2l dX0_odds_7 ?_
  refine jd_putN (fs' := [_, _]) in_X6 tyX6_ok nmX6 ho2 0 q598 dX0_odds_8 rfl (Nat.le_of_ble_eq_true rfl) rfl rfl rfl (Nat.le_of_ble_eq_true rfl) rfl ?_
  refine jd_updG (fun h9 hs9 ho9 => ?_)
  refine jd_goto (tgt := 22) dX0_odds_11 (by decide) ?_
  refine jd_iconst (v := 0) dX0_odds_22 (by decide) ?_
  exact jd_iret dX0_odds_23 rfl (jd_wr.ok hc0 rfl hb2 (hw2.out ho9) hs9 rfl (fun j a b => (ho9 j (fun z => by rw [z] at b; exact absurd b (by decide))).trans (hf2 j a)))

set_option maxRecDepth 20000 in
set_option maxHeartbeats 2000000 in
theorem ct_X0_relieve {G : jd_G} {β : ll_B} {κ : ll_K} {h : jd_H} (hw : WC G β κ h) (hI : ll_I κ) {oA : Nat} {n0 : Int64} {sv : Value} (ho : WO oA n0 sv h) (g : Int32) : jd_Ct G mX0_relieve 13 (4) (24) [.ref (β 0 0), .int (g), .ref (oA)] h (jd_wr G β κ h oA sv (c_gate1 κ g) (gWatch κ (tN g)) (ll_sz κ 10 (tN g) 0)) jd_no := by
  refine jd_ctH (ls := [some (.ref (β 0 0)), some (.int (g)), some (.ref (oA)), none]) rfl rfl (by decide) (Nat.le_of_ble_eq_true rfl) rfl ?_
  refine jd_aload_n dX0_relieve_0 rfl ?_
  refine jd_aload_n dX0_relieve_1 rfl ?_
  refine jd_iload_n dX0_relieve_2 rfl ?_
  have hkx : ∀ (E : String) (h2 : jd_H), (jd_th h (c_gate1 κ g) nmA) E h2 → jd_X G mX0_relieve 13 (4 - 4) (24 - 24) 3 [some (.ref (β 0 0)), some (.int (g)), some (.ref (oA)), none] E h2 (jd_wr G β κ h oA sv (c_gate1 κ g) (gWatch κ (tN g)) (ll_sz κ 10 (tN g) 0)) jd_no := by
    intro E h2 hx
    obtain ⟨hc, hE, he⟩ := hx
    rw [hE, he]
    have hle := le_gate1 κ g
    have e : c_gate1 κ g = 1 := by omega
    rw [e]
    refine jd_catch (E := "java/lang/IndexOutOfBoundsException") [] (0, 10, 13, 19) [] rfl (fun z hz => absurd hz List.not_mem_nil) (by decide) (by decide) q608 q699 (fun q => ?_)
    show jd_W _ _ _ _ _ 13 _ _ _ _ _
    refine jd_astore_n (ls' := [_, _, _, _]) dX0_relieve_13 (Nat.le_of_ble_eq_true rfl) rfl rfl ?_
    refine jd_iconst (v := 1) dX0_relieve_14 (by decide) ?_
    exact jd_iret dX0_relieve_15 rfl (jd_wr.no rfl (by decide) rfl hw ho)
  refine jd_callV (As := [.int (g)]) (rest := [.ref (oA)]) (ct_X1_relieve hw hI g) (jd_rv ((w_this hw)) 0 rfl rfl) rfl q825 q826 q827 q80 q828 nX1_relieve dX0_relieve_3 rfl rfl rfl (Nat.le_of_ble_eq_true rfl) ⟨(Nat.le_of_ble_eq_true rfl), (Nat.le_of_ble_eq_true rfl), by omega, by omega⟩ (fun rv0 hn0 hq0 => ?_) hkx
  obtain ⟨hc0, rfl, b2, hb2, hw2, hf2⟩ := hq0
  have ho2 := (hf2 (40, 0) (by decide)).trans ho.at
  refine jd_i2l dX0_relieve_6 ?_
  refine jd_putN (fs' := [_, _]) in_X6 tyX6_ok nmX6 ho2 0 q598 dX0_relieve_7 rfl (Nat.le_of_ble_eq_true rfl) rfl rfl rfl (Nat.le_of_ble_eq_true rfl) rfl ?_
  refine jd_updG (fun h9 hs9 ho9 => ?_)
  refine jd_goto (tgt := 16) dX0_relieve_10 (by decide) ?_
  refine jd_iconst (v := 0) dX0_relieve_16 (by decide) ?_
  exact jd_iret dX0_relieve_17 rfl (jd_wr.ok hc0 rfl hb2 (hw2.out ho9) hs9 rfl (fun j a b => (ho9 j (fun z => by rw [z] at b; exact absurd b (by decide))).trans (hf2 j a)))

set_option maxRecDepth 20000 in
set_option maxHeartbeats 2000000 in
theorem ct_X0_sleeper {G : jd_G} {β : ll_B} {κ : ll_K} {h : jd_H} (hw : WC G β κ h) (hI : ll_I κ) {oA : Nat} {n0 : Int64} {sv : Value} (ho : WO oA n0 sv h) (l : Int32) (p : Int32) (b : Bool) : jd_Ct G mX0_sleeper 13 (6) (70) [.ref (β 0 0), .int (l), .int (jd_b (b = true)), .int (p), .ref (oA)] h (jd_wr G β κ h oA sv (c_sleeper κ l p) (nI (nS κ)) (k_addS κ (tN l) b p)) jd_no := by
  refine jd_ctH (ls := [some (.ref (β 0 0)), some (.int (l)), some (.int (jd_b (b = true))), some (.int (p)), some (.ref (oA)), none]) rfl rfl (by decide) (Nat.le_of_ble_eq_true rfl) rfl ?_
  refine jd_aload dX0_sleeper_0 rfl ?_
  refine jd_aload_n dX0_sleeper_2 rfl ?_
  refine jd_iload_n dX0_sleeper_3 rfl ?_
  refine jd_iload_n dX0_sleeper_4 rfl ?_
  refine jd_iload_n dX0_sleeper_5 rfl ?_
  have hkx : ∀ (E : String) (h2 : jd_H), (jd_th h (c_sleeper κ l p) nmA) E h2 → jd_X G mX0_sleeper 13 (6 - 6) (70 - 70) 6 [some (.ref (β 0 0)), some (.int (l)), some (.int (jd_b (b = true))), some (.int (p)), some (.ref (oA)), none] E h2 (jd_wr G β κ h oA sv (c_sleeper κ l p) (nI (nS κ)) (k_addS κ (tN l) b p)) jd_no := by
    intro E h2 hx
    obtain ⟨hc, hE, he⟩ := hx
    rw [hE, he]
    have hle := le_sleeper κ l p
    rcases (by omega : c_sleeper κ l p = 1 ∨ c_sleeper κ l p = 2 ∨ c_sleeper κ l p = 3) with e | e | e
    · rw [e]
      refine jd_catch (E := "java/lang/IndexOutOfBoundsException") [] (0, 13, 16, 19) [(0, 13, 20, 21), (0, 13, 24, 26)] rfl (fun z hz => absurd hz List.not_mem_nil) (by decide) (by decide) q608 q699 (fun q => ?_)
      show jd_W _ _ _ _ _ 16 _ _ _ _ _
      refine jd_astore (ls' := [_, _, _, _, _, _]) dX0_sleeper_16 (Nat.le_of_ble_eq_true rfl) rfl rfl ?_
      refine jd_iconst (v := 1) dX0_sleeper_18 (by decide) ?_
      exact jd_iret dX0_sleeper_19 rfl (jd_wr.no rfl (by decide) rfl hw ho)
    · rw [e]
      refine jd_catch (E := "java/lang/IllegalArgumentException") [(0, 13, 16, 19)] (0, 13, 20, 21) [(0, 13, 24, 26)] rfl (List.forall_mem_cons.mpr ⟨⟨by decide, _, q608, jd_ncA⟩, (fun z hz => absurd hz List.not_mem_nil)⟩) (by decide) (by decide) q685 q726 (fun q => ?_)
      show jd_W _ _ _ _ _ 20 _ _ _ _ _
      refine jd_astore (ls' := [_, _, _, _, _, _]) dX0_sleeper_20 (Nat.le_of_ble_eq_true rfl) rfl rfl ?_
      refine jd_iconst (v := 2) dX0_sleeper_22 (by decide) ?_
      exact jd_iret dX0_sleeper_23 rfl (jd_wr.no rfl (by decide) rfl hw ho)
    · rw [e]
      refine jd_catch (E := "java/lang/IllegalStateException") [(0, 13, 16, 19), (0, 13, 20, 21)] (0, 13, 24, 26) [] rfl (List.forall_mem_cons.mpr ⟨⟨by decide, _, q608, jd_ncB⟩, (List.forall_mem_cons.mpr ⟨⟨by decide, _, q685, jd_ncC⟩, (fun z hz => absurd hz List.not_mem_nil)⟩)⟩) (by decide) (by decide) q742 q752 (fun q => ?_)
      show jd_W _ _ _ _ _ 24 _ _ _ _ _
      refine jd_astore (ls' := [_, _, _, _, _, _]) dX0_sleeper_24 (Nat.le_of_ble_eq_true rfl) rfl rfl ?_
      refine jd_iconst (v := 3) dX0_sleeper_26 (by decide) ?_
      exact jd_iret dX0_sleeper_27 rfl (jd_wr.no rfl (by decide) rfl hw ho)
  refine jd_callV (As := [.int (l), .int (jd_b (b = true)), .int (p)]) (rest := [.ref (oA)]) (ct_X1_sleeper hw hI l p b) (jd_rv ((w_this hw)) 0 rfl rfl) rfl q832 q833 q834 q80 q835 nX1_sleeper dX0_sleeper_6 rfl rfl rfl (Nat.le_of_ble_eq_true rfl) ⟨(Nat.le_of_ble_eq_true rfl), (Nat.le_of_ble_eq_true rfl), by omega, by omega⟩ (fun rv0 hn0 hq0 => ?_) hkx
  obtain ⟨hc0, rfl, b2, hb2, hw2, hf2⟩ := hq0
  have ho2 := (hf2 (40, 0) (by decide)).trans ho.at
  refine jd_i2l dX0_sleeper_9 ?_
  refine jd_putN (fs' := [_, _]) in_X6 tyX6_ok nmX6 ho2 0 q598 dX0_sleeper_10 rfl (Nat.le_of_ble_eq_true rfl) rfl rfl rfl (Nat.le_of_ble_eq_true rfl) rfl ?_
  refine jd_updG (fun h9 hs9 ho9 => ?_)
  refine jd_goto (tgt := 28) dX0_sleeper_13 (by decide) ?_
  refine jd_iconst (v := 0) dX0_sleeper_28 (by decide) ?_
  exact jd_iret dX0_sleeper_29 rfl (jd_wr.ok hc0 rfl hb2 (hw2.out ho9) hs9 rfl (fun j a b => (ho9 j (fun z => by rw [z] at b; exact absurd b (by decide))).trans (hf2 j a)))

set_option maxRecDepth 20000 in
set_option maxHeartbeats 2000000 in
theorem ct_X0_part {G : jd_G} {β : ll_B} {κ : ll_K} {h : jd_H} (hw : WC G β κ h) (hI : ll_I κ) {oA : Nat} {n0 : Int64} {sv : Value} (ho : WO oA n0 sv h) (s : Int32) (e : Int32) (w : Int32) (x : Int32) : jd_Ct G mX0_part 13 (8) (100) [.ref (β 0 0), .int (s), .int (e), .int (w), .int (x), .ref (oA)] h (jd_wr G β κ h oA sv (c_part κ s e w x) (nI (nP κ)) (k_addP κ (tN e) w x (tN s))) jd_no := by
  refine jd_ctH (ls := [some (.ref (β 0 0)), some (.int (s)), some (.int (e)), some (.int (w)), some (.int (x)), some (.ref (oA)), none]) rfl rfl (by decide) (Nat.le_of_ble_eq_true rfl) rfl ?_
  refine jd_aload dX0_part_0 rfl ?_
  refine jd_aload_n dX0_part_2 rfl ?_
  refine jd_iload_n dX0_part_3 rfl ?_
  refine jd_iload_n dX0_part_4 rfl ?_
  refine jd_iload_n dX0_part_5 rfl ?_
  refine jd_iload dX0_part_6 rfl ?_
  have hkx : ∀ (E : String) (h2 : jd_H), (jd_th h (c_part κ s e w x) nmA) E h2 → jd_X G mX0_part 13 (8 - 8) (100 - 100) 8 [some (.ref (β 0 0)), some (.int (s)), some (.int (e)), some (.int (w)), some (.int (x)), some (.ref (oA)), none] E h2 (jd_wr G β κ h oA sv (c_part κ s e w x) (nI (nP κ)) (k_addP κ (tN e) w x (tN s))) jd_no := by
    intro E h2 hx
    obtain ⟨hc, hE, he⟩ := hx
    rw [hE, he]
    have hle := le_part κ s e w x
    rcases (by omega : c_part κ s e w x = 1 ∨ c_part κ s e w x = 2 ∨ c_part κ s e w x = 3) with e | e | e
    · rw [e]
      refine jd_catch (E := "java/lang/IndexOutOfBoundsException") [] (0, 15, 18, 19) [(0, 15, 22, 21), (0, 15, 26, 26)] rfl (fun z hz => absurd hz List.not_mem_nil) (by decide) (by decide) q608 q699 (fun q => ?_)
      show jd_W _ _ _ _ _ 18 _ _ _ _ _
      refine jd_astore (ls' := [_, _, _, _, _, _, _]) dX0_part_18 (Nat.le_of_ble_eq_true rfl) rfl rfl ?_
      refine jd_iconst (v := 1) dX0_part_20 (by decide) ?_
      exact jd_iret dX0_part_21 rfl (jd_wr.no rfl (by decide) rfl hw ho)
    · rw [e]
      refine jd_catch (E := "java/lang/IllegalArgumentException") [(0, 15, 18, 19)] (0, 15, 22, 21) [(0, 15, 26, 26)] rfl (List.forall_mem_cons.mpr ⟨⟨by decide, _, q608, jd_ncA⟩, (fun z hz => absurd hz List.not_mem_nil)⟩) (by decide) (by decide) q685 q726 (fun q => ?_)
      show jd_W _ _ _ _ _ 22 _ _ _ _ _
      refine jd_astore (ls' := [_, _, _, _, _, _, _]) dX0_part_22 (Nat.le_of_ble_eq_true rfl) rfl rfl ?_
      refine jd_iconst (v := 2) dX0_part_24 (by decide) ?_
      exact jd_iret dX0_part_25 rfl (jd_wr.no rfl (by decide) rfl hw ho)
    · rw [e]
      refine jd_catch (E := "java/lang/IllegalStateException") [(0, 15, 18, 19), (0, 15, 22, 21)] (0, 15, 26, 26) [] rfl (List.forall_mem_cons.mpr ⟨⟨by decide, _, q608, jd_ncB⟩, (List.forall_mem_cons.mpr ⟨⟨by decide, _, q685, jd_ncC⟩, (fun z hz => absurd hz List.not_mem_nil)⟩)⟩) (by decide) (by decide) q742 q752 (fun q => ?_)
      show jd_W _ _ _ _ _ 26 _ _ _ _ _
      refine jd_astore (ls' := [_, _, _, _, _, _, _]) dX0_part_26 (Nat.le_of_ble_eq_true rfl) rfl rfl ?_
      refine jd_iconst (v := 3) dX0_part_28 (by decide) ?_
      exact jd_iret dX0_part_29 rfl (jd_wr.no rfl (by decide) rfl hw ho)
  refine jd_callV (As := [.int (s), .int (e), .int (w), .int (x)]) (rest := [.ref (oA)]) (ct_X1_part hw hI s e w x) (jd_rv ((w_this hw)) 0 rfl rfl) rfl q885 q886 q887 q80 q888 nX1_part dX0_part_8 rfl rfl rfl (Nat.le_of_ble_eq_true rfl) ⟨(Nat.le_of_ble_eq_true rfl), (Nat.le_of_ble_eq_true rfl), by omega, by omega⟩ (fun rv0 hn0 hq0 => ?_) hkx
  obtain ⟨hc0, rfl, b2, hb2, hw2, hf2⟩ := hq0
  have ho2 := (hf2 (40, 0) (by decide)).trans ho.at
  refine jd_i2l dX0_part_11 ?_
  refine jd_putN (fs' := [_, _]) in_X6 tyX6_ok nmX6 ho2 0 q598 dX0_part_12 rfl (Nat.le_of_ble_eq_true rfl) rfl rfl rfl (Nat.le_of_ble_eq_true rfl) rfl ?_
  refine jd_updG (fun h9 hs9 ho9 => ?_)
  refine jd_goto (tgt := 30) dX0_part_15 (by decide) ?_
  refine jd_iconst (v := 0) dX0_part_30 (by decide) ?_
  exact jd_iret dX0_part_31 rfl (jd_wr.ok hc0 rfl hb2 (hw2.out ho9) hs9 rfl (fun j a b => (ho9 j (fun z => by rw [z] at b; exact absurd b (by decide))).trans (hf2 j a)))

set_option maxRecDepth 20000 in
set_option maxHeartbeats 2000000 in
theorem ct_X0_give {G : jd_G} {β : ll_B} {κ : ll_K} {h : jd_H} (hw : WC G β κ h) (hI : ll_I κ) {oA : Nat} {n0 : Int64} {sv : Value} (ho : WO oA n0 sv h) (p : Int32) (t : Int32) : jd_Ct G mX0_give 13 (4) (24) [.ref (β 0 0), .int (p), .int (t), .ref (oA)] h (jd_wr G β κ h oA sv (c_give κ p t) (nI ((pHead κ (tN p)).getD 0)) (ll_so κ 1 (tN p) (some (tN t)))) jd_no := by
  refine jd_ctH (ls := [some (.ref (β 0 0)), some (.int (p)), some (.int (t)), some (.ref (oA)), none]) rfl rfl (by decide) (Nat.le_of_ble_eq_true rfl) rfl ?_
  refine jd_aload_n dX0_give_0 rfl ?_
  refine jd_aload_n dX0_give_1 rfl ?_
  refine jd_iload_n dX0_give_2 rfl ?_
  refine jd_iload_n dX0_give_3 rfl ?_
  have hkx : ∀ (E : String) (h2 : jd_H), (jd_th h (c_give κ p t) nmB) E h2 → jd_X G mX0_give 13 (4 - 4) (24 - 24) 4 [some (.ref (β 0 0)), some (.int (p)), some (.int (t)), some (.ref (oA)), none] E h2 (jd_wr G β κ h oA sv (c_give κ p t) (nI ((pHead κ (tN p)).getD 0)) (ll_so κ 1 (tN p) (some (tN t)))) jd_no := by
    intro E h2 hx
    obtain ⟨hc, hE, he⟩ := hx
    rw [hE, he]
    have hle := le_give κ p t
    rcases (by omega : c_give κ p t = 1 ∨ c_give κ p t = 2) with e | e
    · rw [e]
      refine jd_catch (E := "java/lang/IndexOutOfBoundsException") [] (0, 11, 14, 19) [(0, 11, 18, 26)] rfl (fun z hz => absurd hz List.not_mem_nil) (by decide) (by decide) q608 q699 (fun q => ?_)
      show jd_W _ _ _ _ _ 14 _ _ _ _ _
      refine jd_astore (ls' := [_, _, _, _, _]) dX0_give_14 (Nat.le_of_ble_eq_true rfl) rfl rfl ?_
      refine jd_iconst (v := 1) dX0_give_16 (by decide) ?_
      exact jd_iret dX0_give_17 rfl (jd_wr.no rfl (by decide) rfl hw ho)
    · rw [e]
      refine jd_catch (E := "java/lang/IllegalStateException") [(0, 11, 14, 19)] (0, 11, 18, 26) [] rfl (List.forall_mem_cons.mpr ⟨⟨by decide, _, q608, jd_ncB⟩, (fun z hz => absurd hz List.not_mem_nil)⟩) (by decide) (by decide) q742 q752 (fun q => ?_)
      show jd_W _ _ _ _ _ 18 _ _ _ _ _
      refine jd_astore (ls' := [_, _, _, _, _]) dX0_give_18 (Nat.le_of_ble_eq_true rfl) rfl rfl ?_
      refine jd_iconst (v := 2) dX0_give_20 (by decide) ?_
      exact jd_iret dX0_give_21 rfl (jd_wr.no rfl (by decide) rfl hw ho)
  refine jd_callV (As := [.int (p), .int (t)]) (rest := [.ref (oA)]) (ct_X1_give hw hI p t) (jd_rv ((w_this hw)) 0 rfl rfl) rfl q933 q934 q935 q80 q936 nX1_give dX0_give_4 rfl rfl rfl (Nat.le_of_ble_eq_true rfl) ⟨(Nat.le_of_ble_eq_true rfl), (Nat.le_of_ble_eq_true rfl), by omega, by omega⟩ (fun rv0 hn0 hq0 => ?_) hkx
  obtain ⟨hc0, rfl, b2, hb2, hw2, hf2⟩ := hq0
  have ho2 := (hf2 (40, 0) (by decide)).trans ho.at
  refine jd_i2l dX0_give_7 ?_
  refine jd_putN (fs' := [_, _]) in_X6 tyX6_ok nmX6 ho2 0 q598 dX0_give_8 rfl (Nat.le_of_ble_eq_true rfl) rfl rfl rfl (Nat.le_of_ble_eq_true rfl) rfl ?_
  refine jd_updG (fun h9 hs9 ho9 => ?_)
  refine jd_goto (tgt := 22) dX0_give_11 (by decide) ?_
  refine jd_iconst (v := 0) dX0_give_22 (by decide) ?_
  exact jd_iret dX0_give_23 rfl (jd_wr.ok hc0 rfl hb2 (hw2.out ho9) hs9 rfl (fun j a b => (ho9 j (fun z => by rw [z] at b; exact absurd b (by decide))).trans (hf2 j a)))

set_option maxRecDepth 20000 in
set_option maxHeartbeats 2000000 in
theorem ct_X0_sing {G : jd_G} {β : ll_B} {κ : ll_K} {h : jd_H} (hw : WC G β κ h) (hI : ll_I κ) {oA : Nat} {n0 : Int64} {sv : Value} (ho : WO oA n0 sv h) (s : Int32) (g : Int32) (n : Int32) (v : Int32) : jd_Ct G mX0_sing 13 (6) (34) [.ref (β 0 0), .int (s), .int (g), .int (n), .int (v), .ref (oA)] h (jd_wr G β κ h oA sv (c_sing κ s g n v) (jd_rem (((13 * nI (tN s)) + (29 * g)) + (7 * n)) 97) (ll_sp κ (tN s) (some (tN g, tN n, tN v)))) jd_no := by
  refine jd_ctH (ls := [some (.ref (β 0 0)), some (.int (s)), some (.int (g)), some (.int (n)), some (.int (v)), some (.ref (oA)), none]) rfl rfl (by decide) (Nat.le_of_ble_eq_true rfl) rfl ?_
  refine jd_aload dX0_sing_0 rfl ?_
  refine jd_aload_n dX0_sing_2 rfl ?_
  refine jd_iload_n dX0_sing_3 rfl ?_
  refine jd_iload_n dX0_sing_4 rfl ?_
  refine jd_iload_n dX0_sing_5 rfl ?_
  refine jd_iload dX0_sing_6 rfl ?_
  have hkx : ∀ (E : String) (h2 : jd_H), (jd_th h (c_sing κ s g n v) nmA) E h2 → jd_X G mX0_sing 13 (6 - 6) (34 - 34) 8 [some (.ref (β 0 0)), some (.int (s)), some (.int (g)), some (.int (n)), some (.int (v)), some (.ref (oA)), none] E h2 (jd_wr G β κ h oA sv (c_sing κ s g n v) (jd_rem (((13 * nI (tN s)) + (29 * g)) + (7 * n)) 97) (ll_sp κ (tN s) (some (tN g, tN n, tN v)))) jd_no := by
    intro E h2 hx
    obtain ⟨hc, hE, he⟩ := hx
    rw [hE, he]
    have hle := le_sing κ s g n v
    rcases (by omega : c_sing κ s g n v = 1 ∨ c_sing κ s g n v = 2) with e | e
    · rw [e]
      refine jd_catch (E := "java/lang/IndexOutOfBoundsException") [] (0, 15, 18, 19) [(0, 15, 22, 21)] rfl (fun z hz => absurd hz List.not_mem_nil) (by decide) (by decide) q608 q699 (fun q => ?_)
      show jd_W _ _ _ _ _ 18 _ _ _ _ _
      refine jd_astore (ls' := [_, _, _, _, _, _, _]) dX0_sing_18 (Nat.le_of_ble_eq_true rfl) rfl rfl ?_
      refine jd_iconst (v := 1) dX0_sing_20 (by decide) ?_
      exact jd_iret dX0_sing_21 rfl (jd_wr.no rfl (by decide) rfl hw ho)
    · rw [e]
      refine jd_catch (E := "java/lang/IllegalArgumentException") [(0, 15, 18, 19)] (0, 15, 22, 21) [] rfl (List.forall_mem_cons.mpr ⟨⟨by decide, _, q608, jd_ncA⟩, (fun z hz => absurd hz List.not_mem_nil)⟩) (by decide) (by decide) q685 q726 (fun q => ?_)
      show jd_W _ _ _ _ _ 22 _ _ _ _ _
      refine jd_astore (ls' := [_, _, _, _, _, _, _]) dX0_sing_22 (Nat.le_of_ble_eq_true rfl) rfl rfl ?_
      refine jd_iconst (v := 2) dX0_sing_24 (by decide) ?_
      exact jd_iret dX0_sing_25 rfl (jd_wr.no rfl (by decide) rfl hw ho)
  refine jd_callV (As := [.int (s), .int (g), .int (n), .int (v)]) (rest := [.ref (oA)]) (ct_X1_sing hw hI s g n v) (jd_rv ((w_this hw)) 0 rfl rfl) rfl q944 q945 q946 q80 q947 nX1_sing dX0_sing_8 rfl rfl rfl (Nat.le_of_ble_eq_true rfl) ⟨(Nat.le_of_ble_eq_true rfl), (Nat.le_of_ble_eq_true rfl), by omega, by omega⟩ (fun rv0 hn0 hq0 => ?_) hkx
  obtain ⟨hc0, rfl, b2, hb2, hw2, hf2⟩ := hq0
  have ho2 := (hf2 (40, 0) (by decide)).trans ho.at
  refine jd_i2l dX0_sing_11 ?_
  refine jd_putN (fs' := [_, _]) in_X6 tyX6_ok nmX6 ho2 0 q598 dX0_sing_12 rfl (Nat.le_of_ble_eq_true rfl) rfl rfl rfl (Nat.le_of_ble_eq_true rfl) rfl ?_
  refine jd_updG (fun h9 hs9 ho9 => ?_)
  refine jd_goto (tgt := 26) dX0_sing_15 (by decide) ?_
  refine jd_iconst (v := 0) dX0_sing_26 (by decide) ?_
  exact jd_iret dX0_sing_27 rfl (jd_wr.ok hc0 rfl hb2 (hw2.out ho9) hs9 rfl (fun j a b => (ho9 j (fun z => by rw [z] at b; exact absurd b (by decide))).trans (hf2 j a)))

set_option maxRecDepth 20000 in
set_option maxHeartbeats 2000000 in
theorem ct_X0_revoke {G : jd_G} {β : ll_B} {κ : ll_K} {h : jd_H} (hw : WC G β κ h) (hI : ll_I κ) {oA : Nat} {n0 : Int64} {sv : Value} (ho : WO oA n0 sv h) (g : Int32) (v : Int32) : jd_Ct G mX0_revoke 13 (4) (24) [.ref (β 0 0), .int (g), .int (v), .ref (oA)] h (jd_wr G β κ h oA sv (c_revoke κ g v) (jd_b (¬ gRev κ (tN g) (tN v) = true)) (k_revoke κ (tN g) (tN v))) jd_no := by
  refine jd_ctH (ls := [some (.ref (β 0 0)), some (.int (g)), some (.int (v)), some (.ref (oA)), none]) rfl rfl (by decide) (Nat.le_of_ble_eq_true rfl) rfl ?_
  refine jd_aload_n dX0_revoke_0 rfl ?_
  refine jd_aload_n dX0_revoke_1 rfl ?_
  refine jd_iload_n dX0_revoke_2 rfl ?_
  refine jd_iload_n dX0_revoke_3 rfl ?_
  have hkx : ∀ (E : String) (h2 : jd_H), (jd_th h (c_revoke κ g v) nmA) E h2 → jd_X G mX0_revoke 13 (4 - 4) (24 - 24) 4 [some (.ref (β 0 0)), some (.int (g)), some (.int (v)), some (.ref (oA)), none] E h2 (jd_wr G β κ h oA sv (c_revoke κ g v) (jd_b (¬ gRev κ (tN g) (tN v) = true)) (k_revoke κ (tN g) (tN v))) jd_no := by
    intro E h2 hx
    obtain ⟨hc, hE, he⟩ := hx
    rw [hE, he]
    have hle := le_revoke κ g v
    rcases (by omega : c_revoke κ g v = 1 ∨ c_revoke κ g v = 2) with e | e
    · rw [e]
      refine jd_catch (E := "java/lang/IndexOutOfBoundsException") [] (0, 18, 21, 19) [(0, 18, 25, 21)] rfl (fun z hz => absurd hz List.not_mem_nil) (by decide) (by decide) q608 q699 (fun q => ?_)
      show jd_W _ _ _ _ _ 21 _ _ _ _ _
      refine jd_astore (ls' := [_, _, _, _, _]) dX0_revoke_21 (Nat.le_of_ble_eq_true rfl) rfl rfl ?_
      refine jd_iconst (v := 1) dX0_revoke_23 (by decide) ?_
      exact jd_iret dX0_revoke_24 rfl (jd_wr.no rfl (by decide) rfl hw ho)
    · rw [e]
      refine jd_catch (E := "java/lang/IllegalArgumentException") [(0, 18, 21, 19)] (0, 18, 25, 21) [] rfl (List.forall_mem_cons.mpr ⟨⟨by decide, _, q608, jd_ncA⟩, (fun z hz => absurd hz List.not_mem_nil)⟩) (by decide) (by decide) q685 q726 (fun q => ?_)
      show jd_W _ _ _ _ _ 25 _ _ _ _ _
      refine jd_astore (ls' := [_, _, _, _, _]) dX0_revoke_25 (Nat.le_of_ble_eq_true rfl) rfl rfl ?_
      refine jd_iconst (v := 2) dX0_revoke_27 (by decide) ?_
      exact jd_iret dX0_revoke_28 rfl (jd_wr.no rfl (by decide) rfl hw ho)
  refine jd_callV (As := [.int (g), .int (v)]) (rest := [.ref (oA)]) (ct_X1_revoke hw hI g v) (jd_rv ((w_this hw)) 0 rfl rfl) rfl q985 q986 q987 q80 q988 nX1_revoke dX0_revoke_4 rfl rfl rfl (Nat.le_of_ble_eq_true rfl) ⟨(Nat.le_of_ble_eq_true rfl), (Nat.le_of_ble_eq_true rfl), by omega, by omega⟩ (fun rv0 hn0 hq0 => ?_) hkx
  obtain ⟨hc0, rfl, b2, hb2, hw2, hf2⟩ := hq0
  have ho2 := (hf2 (40, 0) (by decide)).trans ho.at
  refine jd_mg1 15 (.long ((if ¬ gRev κ (tN g) (tN v) = true then 1 else 0))) (fun hj2 => ?_) ?_
  · refine jd_bif_eq (tgt := 14) dX0_revoke_7 (by decide) (fun z3 => ?_) (fun z4 => ?_)
    · refine jd_lconst (v := 0) dX0_revoke_14 (by decide) ?_
      exact jd_top (congrArg Value.long (by rw [if_neg z3])) hj2
    · refine jd_lconst (v := 1) dX0_revoke_10 (by decide) ?_
      refine jd_goto (tgt := 15) dX0_revoke_11 (by decide) ?_
      exact jd_top (congrArg Value.long (by rw [if_pos z4])) hj2
  · refine jd_putN (fs' := [_, _]) in_X6 tyX6_ok nmX6 ho2 0 q598 dX0_revoke_15 rfl (Nat.le_of_ble_eq_true rfl) rfl rfl rfl (Nat.le_of_ble_eq_true rfl) rfl ?_
    refine jd_updG (fun h9 hs9 ho9 => ?_)
    refine jd_goto (tgt := 29) dX0_revoke_18 (by decide) ?_
    refine jd_iconst (v := 0) dX0_revoke_29 (by decide) ?_
    exact jd_iret dX0_revoke_30 rfl (jd_wr.ok hc0 rfl hb2 (hw2.out ho9) hs9 jd_b64 (fun j a b => (ho9 j (fun z => by rw [z] at b; exact absurd b (by decide))).trans (hf2 j a)))

set_option maxRecDepth 20000 in
set_option maxHeartbeats 2000000 in
theorem ct_X0_join {G : jd_G} {β : ll_B} {κ : ll_K} {h : jd_H} (hw : WC G β κ h) (hI : ll_I κ) {oA : Nat} {n0 : Int64} {sv : Value} (ho : WO oA n0 sv h) (s : Int32) (g : Int32) (d : Int32) : jd_Ct G mX0_join 13 (46) (1340) [.ref (β 0 0), .int (s), .int (g), .int (d), .ref (oA)] h (jd_wr G β κ h oA sv (c_join κ s g d) (nI (enterAt κ (tN g) (tN s))) (k_join κ (tN s) (tN g) d)) jd_no := by
  refine jd_ctH (ls := [some (.ref (β 0 0)), some (.int (s)), some (.int (g)), some (.int (d)), some (.ref (oA)), none]) rfl rfl (by decide) (Nat.le_of_ble_eq_true rfl) rfl ?_
  refine jd_aload dX0_join_0 rfl ?_
  refine jd_aload_n dX0_join_2 rfl ?_
  refine jd_iload_n dX0_join_3 rfl ?_
  refine jd_iload_n dX0_join_4 rfl ?_
  refine jd_iload_n dX0_join_5 rfl ?_
  have hkx : ∀ (E : String) (h2 : jd_H), (jd_th h (c_join κ s g d) nmA) E h2 → jd_X G mX0_join 13 (46 - 46) (1340 - 1340) 6 [some (.ref (β 0 0)), some (.int (s)), some (.int (g)), some (.int (d)), some (.ref (oA)), none] E h2 (jd_wr G β κ h oA sv (c_join κ s g d) (nI (enterAt κ (tN g) (tN s))) (k_join κ (tN s) (tN g) d)) jd_no := by
    intro E h2 hx
    obtain ⟨hc, hE, he⟩ := hx
    rw [hE, he]
    have hle := le_join κ s g d
    rcases (by omega : c_join κ s g d = 1 ∨ c_join κ s g d = 2 ∨ c_join κ s g d = 3) with e | e | e
    · rw [e]
      refine jd_catch (E := "java/lang/IndexOutOfBoundsException") [] (0, 13, 16, 19) [(0, 13, 20, 21), (0, 13, 24, 26)] rfl (fun z hz => absurd hz List.not_mem_nil) (by decide) (by decide) q608 q699 (fun q => ?_)
      show jd_W _ _ _ _ _ 16 _ _ _ _ _
      refine jd_astore (ls' := [_, _, _, _, _, _]) dX0_join_16 (Nat.le_of_ble_eq_true rfl) rfl rfl ?_
      refine jd_iconst (v := 1) dX0_join_18 (by decide) ?_
      exact jd_iret dX0_join_19 rfl (jd_wr.no rfl (by decide) rfl hw ho)
    · rw [e]
      refine jd_catch (E := "java/lang/IllegalArgumentException") [(0, 13, 16, 19)] (0, 13, 20, 21) [(0, 13, 24, 26)] rfl (List.forall_mem_cons.mpr ⟨⟨by decide, _, q608, jd_ncA⟩, (fun z hz => absurd hz List.not_mem_nil)⟩) (by decide) (by decide) q685 q726 (fun q => ?_)
      show jd_W _ _ _ _ _ 20 _ _ _ _ _
      refine jd_astore (ls' := [_, _, _, _, _, _]) dX0_join_20 (Nat.le_of_ble_eq_true rfl) rfl rfl ?_
      refine jd_iconst (v := 2) dX0_join_22 (by decide) ?_
      exact jd_iret dX0_join_23 rfl (jd_wr.no rfl (by decide) rfl hw ho)
    · rw [e]
      refine jd_catch (E := "java/lang/IllegalStateException") [(0, 13, 16, 19), (0, 13, 20, 21)] (0, 13, 24, 26) [] rfl (List.forall_mem_cons.mpr ⟨⟨by decide, _, q608, jd_ncB⟩, (List.forall_mem_cons.mpr ⟨⟨by decide, _, q685, jd_ncC⟩, (fun z hz => absurd hz List.not_mem_nil)⟩)⟩) (by decide) (by decide) q742 q752 (fun q => ?_)
      show jd_W _ _ _ _ _ 24 _ _ _ _ _
      refine jd_astore (ls' := [_, _, _, _, _, _]) dX0_join_24 (Nat.le_of_ble_eq_true rfl) rfl rfl ?_
      refine jd_iconst (v := 3) dX0_join_26 (by decide) ?_
      exact jd_iret dX0_join_27 rfl (jd_wr.no rfl (by decide) rfl hw ho)
  refine jd_callV (As := [.int (s), .int (g), .int (d)]) (rest := [.ref (oA)]) (ct_X1_join hw hI s g d) (jd_rv ((w_this hw)) 0 rfl rfl) rfl q992 q993 q994 q80 q995 nX1_join dX0_join_6 rfl rfl rfl (Nat.le_of_ble_eq_true rfl) ⟨(Nat.le_of_ble_eq_true rfl), (Nat.le_of_ble_eq_true rfl), by omega, by omega⟩ (fun rv0 hn0 hq0 => ?_) hkx
  obtain ⟨hc0, rfl, b2, hb2, hw2, hf2⟩ := hq0
  have ho2 := (hf2 (40, 0) (by decide)).trans ho.at
  refine jd_i2l dX0_join_9 ?_
  refine jd_putN (fs' := [_, _]) in_X6 tyX6_ok nmX6 ho2 0 q598 dX0_join_10 rfl (Nat.le_of_ble_eq_true rfl) rfl rfl rfl (Nat.le_of_ble_eq_true rfl) rfl ?_
  refine jd_updG (fun h9 hs9 ho9 => ?_)
  refine jd_goto (tgt := 28) dX0_join_13 (by decide) ?_
  refine jd_iconst (v := 0) dX0_join_28 (by decide) ?_
  exact jd_iret dX0_join_29 rfl (jd_wr.ok hc0 rfl hb2 (hw2.out ho9) hs9 rfl (fun j a b => (ho9 j (fun z => by rw [z] at b; exact absurd b (by decide))).trans (hf2 j a)))

set_option maxRecDepth 20000 in
set_option maxHeartbeats 2000000 in
theorem ct_X0_leave {G : jd_G} {β : ll_B} {κ : ll_K} {h : jd_H} (hw : WC G β κ h) (hI : ll_I κ) {oA : Nat} {n0 : Int64} {sv : Value} (ho : WO oA n0 sv h) (s : Int32) : jd_Ct G mX0_leave 13 (4) (24) [.ref (β 0 0), .int (s), .ref (oA)] h (jd_wr G β κ h oA sv (c_leave κ s) (nI (leaveP κ (tN s))) (k_leave κ (tN s))) jd_no := by
  refine jd_ctH (ls := [some (.ref (β 0 0)), some (.int (s)), some (.ref (oA)), none]) rfl rfl (by decide) (Nat.le_of_ble_eq_true rfl) rfl ?_
  refine jd_aload_n dX0_leave_0 rfl ?_
  refine jd_aload_n dX0_leave_1 rfl ?_
  refine jd_iload_n dX0_leave_2 rfl ?_
  have hkx : ∀ (E : String) (h2 : jd_H), (jd_th h (c_leave κ s) nmB) E h2 → jd_X G mX0_leave 13 (4 - 4) (24 - 24) 3 [some (.ref (β 0 0)), some (.int (s)), some (.ref (oA)), none] E h2 (jd_wr G β κ h oA sv (c_leave κ s) (nI (leaveP κ (tN s))) (k_leave κ (tN s))) jd_no := by
    intro E h2 hx
    obtain ⟨hc, hE, he⟩ := hx
    rw [hE, he]
    have hle := le_leave κ s
    rcases (by omega : c_leave κ s = 1 ∨ c_leave κ s = 2) with e | e
    · rw [e]
      refine jd_catch (E := "java/lang/IndexOutOfBoundsException") [] (0, 10, 13, 19) [(0, 10, 16, 26)] rfl (fun z hz => absurd hz List.not_mem_nil) (by decide) (by decide) q608 q699 (fun q => ?_)
      show jd_W _ _ _ _ _ 13 _ _ _ _ _
      refine jd_astore_n (ls' := [_, _, _, _]) dX0_leave_13 (Nat.le_of_ble_eq_true rfl) rfl rfl ?_
      refine jd_iconst (v := 1) dX0_leave_14 (by decide) ?_
      exact jd_iret dX0_leave_15 rfl (jd_wr.no rfl (by decide) rfl hw ho)
    · rw [e]
      refine jd_catch (E := "java/lang/IllegalStateException") [(0, 10, 13, 19)] (0, 10, 16, 26) [] rfl (List.forall_mem_cons.mpr ⟨⟨by decide, _, q608, jd_ncB⟩, (fun z hz => absurd hz List.not_mem_nil)⟩) (by decide) (by decide) q742 q752 (fun q => ?_)
      show jd_W _ _ _ _ _ 16 _ _ _ _ _
      refine jd_astore_n (ls' := [_, _, _, _]) dX0_leave_16 (Nat.le_of_ble_eq_true rfl) rfl rfl ?_
      refine jd_iconst (v := 2) dX0_leave_17 (by decide) ?_
      exact jd_iret dX0_leave_18 rfl (jd_wr.no rfl (by decide) rfl hw ho)
  refine jd_callV (As := [.int (s)]) (rest := [.ref (oA)]) (ct_X1_leave hw hI s) (jd_rv ((w_this hw)) 0 rfl rfl) rfl q1020 q1021 q1022 q80 q1023 nX1_leave dX0_leave_3 rfl rfl rfl (Nat.le_of_ble_eq_true rfl) ⟨(Nat.le_of_ble_eq_true rfl), (Nat.le_of_ble_eq_true rfl), by omega, by omega⟩ (fun rv0 hn0 hq0 => ?_) hkx
  obtain ⟨hc0, rfl, b2, hb2, hw2, hf2⟩ := hq0
  have ho2 := (hf2 (40, 0) (by decide)).trans ho.at
  refine jd_i2l dX0_leave_6 ?_
  refine jd_putN (fs' := [_, _]) in_X6 tyX6_ok nmX6 ho2 0 q598 dX0_leave_7 rfl (Nat.le_of_ble_eq_true rfl) rfl rfl rfl (Nat.le_of_ble_eq_true rfl) rfl ?_
  refine jd_updG (fun h9 hs9 ho9 => ?_)
  refine jd_goto (tgt := 19) dX0_leave_10 (by decide) ?_
  refine jd_iconst (v := 0) dX0_leave_19 (by decide) ?_
  exact jd_iret dX0_leave_20 rfl (jd_wr.ok hc0 rfl hb2 (hw2.out ho9) hs9 rfl (fun j a b => (ho9 j (fun z => by rw [z] at b; exact absurd b (by decide))).trans (hf2 j a)))

set_option maxRecDepth 20000 in
set_option maxHeartbeats 2000000 in
theorem ct_X0_yawn {G : jd_G} {β : ll_B} {κ : ll_K} {h : jd_H} (hw : WC G β κ h) (hI : ll_I κ) {oA : Nat} {n0 : Int64} {sv : Value} (ho : WO oA n0 sv h) (g : Int32) : jd_Ct G mX0_yawn 15 (56) (1960) [.ref (β 0 0), .int (g), .ref (oA)] h (jd_wr G β κ h oA sv (c_yawn κ g) (yawnVal κ (tN g)) (k_yawn κ (tN g))) jd_no := by
  refine jd_ctH (ls := [some (.ref (β 0 0)), some (.int (g)), some (.ref (oA)), none]) rfl rfl (by decide) (Nat.le_of_ble_eq_true rfl) rfl ?_
  refine jd_aload_n dX0_yawn_0 rfl ?_
  refine jd_aload_n dX0_yawn_1 rfl ?_
  refine jd_iload_n dX0_yawn_2 rfl ?_
  have hkx : ∀ (E : String) (h2 : jd_H), (jd_th h (c_yawn κ g) nmB) E h2 → jd_X G mX0_yawn 15 (56 - 56) (1960 - 1960) 3 [some (.ref (β 0 0)), some (.int (g)), some (.ref (oA)), none] E h2 (jd_wr G β κ h oA sv (c_yawn κ g) (yawnVal κ (tN g)) (k_yawn κ (tN g))) jd_no := by
    intro E h2 hx
    obtain ⟨hc, hE, he⟩ := hx
    rw [hE, he]
    have hle := le_yawn κ g
    rcases (by omega : c_yawn κ g = 1 ∨ c_yawn κ g = 2) with e | e
    · rw [e]
      refine jd_catch (E := "java/lang/IndexOutOfBoundsException") [] (0, 10, 13, 19) [(0, 10, 16, 26)] rfl (fun z hz => absurd hz List.not_mem_nil) (by decide) (by decide) q608 q699 (fun q => ?_)
      show jd_W _ _ _ _ _ 13 _ _ _ _ _
      refine jd_astore_n (ls' := [_, _, _, _]) dX0_yawn_13 (Nat.le_of_ble_eq_true rfl) rfl rfl ?_
      refine jd_iconst (v := 1) dX0_yawn_14 (by decide) ?_
      exact jd_iret dX0_yawn_15 rfl (jd_wr.no rfl (by decide) rfl hw ho)
    · rw [e]
      refine jd_catch (E := "java/lang/IllegalStateException") [(0, 10, 13, 19)] (0, 10, 16, 26) [] rfl (List.forall_mem_cons.mpr ⟨⟨by decide, _, q608, jd_ncB⟩, (fun z hz => absurd hz List.not_mem_nil)⟩) (by decide) (by decide) q742 q752 (fun q => ?_)
      show jd_W _ _ _ _ _ 16 _ _ _ _ _
      refine jd_astore_n (ls' := [_, _, _, _]) dX0_yawn_16 (Nat.le_of_ble_eq_true rfl) rfl rfl ?_
      refine jd_iconst (v := 2) dX0_yawn_17 (by decide) ?_
      exact jd_iret dX0_yawn_18 rfl (jd_wr.no rfl (by decide) rfl hw ho)
  refine jd_callV (As := [.int (g)]) (rest := [.ref (oA)]) (ct_X1_yawn hw hI g) (jd_rv ((w_this hw)) 0 rfl rfl) rfl q1033 q1034 q1035 q80 q1036 nX1_yawn dX0_yawn_3 rfl rfl rfl (Nat.le_of_ble_eq_true rfl) ⟨(Nat.le_of_ble_eq_true rfl), (Nat.le_of_ble_eq_true rfl), by omega, by omega⟩ (fun rv0 hn0 hq0 => ?_) hkx
  obtain ⟨hc0, rfl, b2, hb2, hw2, hf2⟩ := hq0
  have ho2 := (hf2 (40, 0) (by decide)).trans ho.at
  refine jd_i2l dX0_yawn_6 ?_
  refine jd_putN (fs' := [_, _]) in_X6 tyX6_ok nmX6 ho2 0 q598 dX0_yawn_7 rfl (Nat.le_of_ble_eq_true rfl) rfl rfl rfl (Nat.le_of_ble_eq_true rfl) rfl ?_
  refine jd_updG (fun h9 hs9 ho9 => ?_)
  refine jd_goto (tgt := 19) dX0_yawn_10 (by decide) ?_
  refine jd_iconst (v := 0) dX0_yawn_19 (by decide) ?_
  exact jd_iret dX0_yawn_20 rfl (jd_wr.ok hc0 rfl hb2 (hw2.out ho9) hs9 rfl (fun j a b => (ho9 j (fun z => by rw [z] at b; exact absurd b (by decide))).trans (hf2 j a)))

set_option maxRecDepth 20000 in
set_option maxHeartbeats 2000000 in
theorem ct_X0_appeal {G : jd_G} {β : ll_B} {κ : ll_K} {h : jd_H} (hw : WC G β κ h) (hI : ll_I κ) {oA : Nat} {n0 : Int64} {sv : Value} (ho : WO oA n0 sv h) (p : Int32) : jd_Ct G mX0_appeal 13 (4) (24) [.ref (β 0 0), .int (p), .ref (oA)] h (jd_wr G β κ h oA sv (c_appeal κ p) (jd_b (apOk κ (tN p) ((pStore κ (tN p)).getD 0) ((pBy κ (tN p)).getD 0))) (if apOk κ (tN p) ((pStore κ (tN p)).getD 0) ((pBy κ (tN p)).getD 0) then k_appeal κ (tN p) ((pStore κ (tN p)).getD 0) else κ)) jd_no := by
  refine jd_ctH (ls := [some (.ref (β 0 0)), some (.int (p)), some (.ref (oA)), none]) rfl rfl (by decide) (Nat.le_of_ble_eq_true rfl) rfl ?_
  refine jd_aload_n dX0_appeal_0 rfl ?_
  refine jd_aload_n dX0_appeal_1 rfl ?_
  refine jd_iload_n dX0_appeal_2 rfl ?_
  have hkx : ∀ (E : String) (h2 : jd_H), (jd_th h (c_appeal κ p) nmB) E h2 → jd_X G mX0_appeal 13 (4 - 4) (24 - 24) 3 [some (.ref (β 0 0)), some (.int (p)), some (.ref (oA)), none] E h2 (jd_wr G β κ h oA sv (c_appeal κ p) (jd_b (apOk κ (tN p) ((pStore κ (tN p)).getD 0) ((pBy κ (tN p)).getD 0))) (if apOk κ (tN p) ((pStore κ (tN p)).getD 0) ((pBy κ (tN p)).getD 0) then k_appeal κ (tN p) ((pStore κ (tN p)).getD 0) else κ)) jd_no := by
    intro E h2 hx
    obtain ⟨hc, hE, he⟩ := hx
    rw [hE, he]
    have hle := le_appeal κ p
    rcases (by omega : c_appeal κ p = 1 ∨ c_appeal κ p = 2) with e | e
    · rw [e]
      refine jd_catch (E := "java/lang/IndexOutOfBoundsException") [] (0, 17, 20, 19) [(0, 17, 23, 26)] rfl (fun z hz => absurd hz List.not_mem_nil) (by decide) (by decide) q608 q699 (fun q => ?_)
      show jd_W _ _ _ _ _ 20 _ _ _ _ _
      refine jd_astore_n (ls' := [_, _, _, _]) dX0_appeal_20 (Nat.le_of_ble_eq_true rfl) rfl rfl ?_
      refine jd_iconst (v := 1) dX0_appeal_21 (by decide) ?_
      exact jd_iret dX0_appeal_22 rfl (jd_wr.no rfl (by decide) rfl hw ho)
    · rw [e]
      refine jd_catch (E := "java/lang/IllegalStateException") [(0, 17, 20, 19)] (0, 17, 23, 26) [] rfl (List.forall_mem_cons.mpr ⟨⟨by decide, _, q608, jd_ncB⟩, (fun z hz => absurd hz List.not_mem_nil)⟩) (by decide) (by decide) q742 q752 (fun q => ?_)
      show jd_W _ _ _ _ _ 23 _ _ _ _ _
      refine jd_astore_n (ls' := [_, _, _, _]) dX0_appeal_23 (Nat.le_of_ble_eq_true rfl) rfl rfl ?_
      refine jd_iconst (v := 2) dX0_appeal_24 (by decide) ?_
      exact jd_iret dX0_appeal_25 rfl (jd_wr.no rfl (by decide) rfl hw ho)
  refine jd_callV (As := [.int (p)]) (rest := [.ref (oA)]) (ct_X1_appeal hw hI p) (jd_rv ((w_this hw)) 0 rfl rfl) rfl q1099 q1100 q1101 q80 q1102 nX1_appeal dX0_appeal_3 rfl rfl rfl (Nat.le_of_ble_eq_true rfl) ⟨(Nat.le_of_ble_eq_true rfl), (Nat.le_of_ble_eq_true rfl), by omega, by omega⟩ (fun rv0 hn0 hq0 => ?_) hkx
  obtain ⟨hc0, rfl, b2, hb2, hw2, hf2⟩ := hq0
  have ho2 := (hf2 (40, 0) (by decide)).trans ho.at
  refine jd_mg1 14 (.long ((if apOk κ (tN p) ((pStore κ (tN p)).getD 0) ((pBy κ (tN p)).getD 0) then 1 else 0))) (fun hj2 => ?_) ?_
  · refine jd_bif_eq (tgt := 13) dX0_appeal_6 (by decide) (fun z3 => ?_) (fun z4 => ?_)
    · refine jd_lconst (v := 0) dX0_appeal_13 (by decide) ?_
      exact jd_top (congrArg Value.long (by rw [if_neg z3])) hj2
    · refine jd_lconst (v := 1) dX0_appeal_9 (by decide) ?_
      refine jd_goto (tgt := 14) dX0_appeal_10 (by decide) ?_
      exact jd_top (congrArg Value.long (by rw [if_pos z4])) hj2
  · refine jd_putN (fs' := [_, _]) in_X6 tyX6_ok nmX6 ho2 0 q598 dX0_appeal_14 rfl (Nat.le_of_ble_eq_true rfl) rfl rfl rfl (Nat.le_of_ble_eq_true rfl) rfl ?_
    refine jd_updG (fun h9 hs9 ho9 => ?_)
    refine jd_goto (tgt := 26) dX0_appeal_17 (by decide) ?_
    refine jd_iconst (v := 0) dX0_appeal_26 (by decide) ?_
    exact jd_iret dX0_appeal_27 rfl (jd_wr.ok hc0 rfl hb2 (hw2.out ho9) hs9 jd_b64 (fun j a b => (ho9 j (fun z => by rw [z] at b; exact absurd b (by decide))).trans (hf2 j a)))

set_option maxRecDepth 20000 in
set_option maxHeartbeats 2000000 in
theorem ct_X0_pass {G : jd_G} {β : ll_B} {κ : ll_K} {h : jd_H} (hw : WC G β κ h) (hI : ll_I κ) {oA : Nat} {n0 : Int64} {sv : Value} (ho : WO oA n0 sv h) (H : Int32) : jd_Ct G mX0_pass 14 (820) (46100) [.ref (β 0 0), .int (H), .ref (oA)] h (jd_wr G β κ h oA sv (c_pass κ H) (nI (nHour (k_pass κ H))) (k_pass κ H)) jd_no := by
  refine jd_ctH (ls := [some (.ref (β 0 0)), some (.int (H)), some (.ref (oA)), none]) rfl rfl (by decide) (Nat.le_of_ble_eq_true rfl) rfl ?_
  refine jd_aload_n dX0_pass_0 rfl ?_
  refine jd_aload_n dX0_pass_1 rfl ?_
  refine jd_iload_n dX0_pass_2 rfl ?_
  have hkx : ∀ (E : String) (h2 : jd_H), (jd_th h (c_pass κ H) nmC) E h2 → jd_X G mX0_pass 14 (820 - 820) (46100 - 46100) 3 [some (.ref (β 0 0)), some (.int (H)), some (.ref (oA)), none] E h2 (jd_wr G β κ h oA sv (c_pass κ H) (nI (nHour (k_pass κ H))) (k_pass κ H)) jd_no := by
    intro E h2 hx
    obtain ⟨hc, hE, he⟩ := hx
    rw [hE, he]
    have hle := le_pass κ H
    rcases (by omega : c_pass κ H = 1 ∨ c_pass κ H = 2) with e | e
    · rw [e]
      refine jd_catch (E := "java/lang/IllegalArgumentException") [] (0, 10, 13, 21) [(0, 10, 16, 26)] rfl (fun z hz => absurd hz List.not_mem_nil) (by decide) (by decide) q685 q726 (fun q => ?_)
      show jd_W _ _ _ _ _ 13 _ _ _ _ _
      refine jd_astore_n (ls' := [_, _, _, _]) dX0_pass_13 (Nat.le_of_ble_eq_true rfl) rfl rfl ?_
      refine jd_iconst (v := 1) dX0_pass_14 (by decide) ?_
      exact jd_iret dX0_pass_15 rfl (jd_wr.no rfl (by decide) rfl hw ho)
    · rw [e]
      refine jd_catch (E := "java/lang/IllegalStateException") [(0, 10, 13, 21)] (0, 10, 16, 26) [] rfl (List.forall_mem_cons.mpr ⟨⟨by decide, _, q685, jd_ncC⟩, (fun z hz => absurd hz List.not_mem_nil)⟩) (by decide) (by decide) q742 q752 (fun q => ?_)
      show jd_W _ _ _ _ _ 16 _ _ _ _ _
      refine jd_astore_n (ls' := [_, _, _, _]) dX0_pass_16 (Nat.le_of_ble_eq_true rfl) rfl rfl ?_
      refine jd_iconst (v := 2) dX0_pass_17 (by decide) ?_
      exact jd_iret dX0_pass_18 rfl (jd_wr.no rfl (by decide) rfl hw ho)
  refine jd_callV (As := [.int (H)]) (rest := [.ref (oA)]) (ct_X1_pass hw hI H) (jd_rv ((w_this hw)) 0 rfl rfl) rfl q1106 q1107 q1108 q80 q1109 nX1_pass dX0_pass_3 rfl rfl rfl (Nat.le_of_ble_eq_true rfl) ⟨(Nat.le_of_ble_eq_true rfl), (Nat.le_of_ble_eq_true rfl), by omega, by omega⟩ (fun rv0 hn0 hq0 => ?_) hkx
  obtain ⟨hc0, rfl, b2, hb2, hw2, hf2⟩ := hq0
  have ho2 := (hf2 (40, 0) (by decide)).trans ho.at
  refine jd_i2l dX0_pass_6 ?_
  refine jd_putN (fs' := [_, _]) in_X6 tyX6_ok nmX6 ho2 0 q598 dX0_pass_7 rfl (Nat.le_of_ble_eq_true rfl) rfl rfl rfl (Nat.le_of_ble_eq_true rfl) rfl ?_
  refine jd_updG (fun h9 hs9 ho9 => ?_)
  refine jd_goto (tgt := 19) dX0_pass_10 (by decide) ?_
  refine jd_iconst (v := 0) dX0_pass_19 (by decide) ?_
  exact jd_iret dX0_pass_20 rfl (jd_wr.ok hc0 rfl hb2 (hw2.out ho9) hs9 rfl (fun j a b => (ho9 j (fun z => by rw [z] at b; exact absurd b (by decide))).trans (hf2 j a)))

set_option maxRecDepth 20000 in
set_option maxHeartbeats 2000000 in
theorem ct_X0_ofLand {G : jd_G} {β : ll_B} {κ : ll_K} {h : jd_H} (hw : WC G β κ h) (hI : ll_I κ) {oA : Nat} {n0 : Int64} {sv : Value} (ho : WO oA n0 sv h) (l : Int32) (w : Int32) : jd_Ct G mX0_ofLand 13 (4) (24) [.ref (β 0 0), .int (l), .int (w), .ref (oA)] h (jd_wr G β κ h oA sv (c_ofLand l w) (landVal κ (tN l) (tN w)) (κ)) jd_no := by
  refine jd_ctH (ls := [some (.ref (β 0 0)), some (.int (l)), some (.int (w)), some (.ref (oA)), none]) rfl rfl (by decide) (Nat.le_of_ble_eq_true rfl) rfl ?_
  refine jd_aload_n dX0_ofLand_0 rfl ?_
  refine jd_aload_n dX0_ofLand_1 rfl ?_
  refine jd_iload_n dX0_ofLand_2 rfl ?_
  refine jd_iload_n dX0_ofLand_3 rfl ?_
  have hkx : ∀ (E : String) (h2 : jd_H), (jd_th h (c_ofLand l w) nmA) E h2 → jd_X G mX0_ofLand 13 (4 - 4) (24 - 24) 4 [some (.ref (β 0 0)), some (.int (l)), some (.int (w)), some (.ref (oA)), none] E h2 (jd_wr G β κ h oA sv (c_ofLand l w) (landVal κ (tN l) (tN w)) (κ)) jd_no := by
    intro E h2 hx
    obtain ⟨hc, hE, he⟩ := hx
    rw [hE, he]
    have hle := le_ofLand l w
    rcases (by omega : c_ofLand l w = 1 ∨ c_ofLand l w = 2) with e | e
    · rw [e]
      refine jd_catch (E := "java/lang/IndexOutOfBoundsException") [] (0, 11, 14, 19) [(0, 11, 18, 21)] rfl (fun z hz => absurd hz List.not_mem_nil) (by decide) (by decide) q608 q699 (fun q => ?_)
      show jd_W _ _ _ _ _ 14 _ _ _ _ _
      refine jd_astore (ls' := [_, _, _, _, _]) dX0_ofLand_14 (Nat.le_of_ble_eq_true rfl) rfl rfl ?_
      refine jd_iconst (v := 1) dX0_ofLand_16 (by decide) ?_
      exact jd_iret dX0_ofLand_17 rfl (jd_wr.no rfl (by decide) rfl hw ho)
    · rw [e]
      refine jd_catch (E := "java/lang/IllegalArgumentException") [(0, 11, 14, 19)] (0, 11, 18, 21) [] rfl (List.forall_mem_cons.mpr ⟨⟨by decide, _, q608, jd_ncA⟩, (fun z hz => absurd hz List.not_mem_nil)⟩) (by decide) (by decide) q685 q726 (fun q => ?_)
      show jd_W _ _ _ _ _ 18 _ _ _ _ _
      refine jd_astore (ls' := [_, _, _, _, _]) dX0_ofLand_18 (Nat.le_of_ble_eq_true rfl) rfl rfl ?_
      refine jd_iconst (v := 2) dX0_ofLand_20 (by decide) ?_
      exact jd_iret dX0_ofLand_21 rfl (jd_wr.no rfl (by decide) rfl hw ho)
  refine jd_callV (As := [.int (l), .int (w)]) (rest := [.ref (oA)]) (ct_X1_ofLand hw hI l w) (jd_rv ((w_this hw)) 0 rfl rfl) rfl q1131 q1132 q1133 q80 q1134 nX1_ofLand dX0_ofLand_4 rfl rfl rfl (Nat.le_of_ble_eq_true rfl) ⟨(Nat.le_of_ble_eq_true rfl), (Nat.le_of_ble_eq_true rfl), by omega, by omega⟩ (fun rv0 hn0 hq0 => ?_) hkx
  obtain ⟨hc0, rfl, he0⟩ := hq0
  rw [he0]
  have ho2 := ho.at
  refine jd_i2l dX0_ofLand_7 ?_
  refine jd_putN (fs' := [_, _]) in_X6 tyX6_ok nmX6 ho2 0 q598 dX0_ofLand_8 rfl (Nat.le_of_ble_eq_true rfl) rfl rfl rfl (Nat.le_of_ble_eq_true rfl) rfl ?_
  refine jd_updG (fun h9 hs9 ho9 => ?_)
  refine jd_goto (tgt := 22) dX0_ofLand_11 (by decide) ?_
  refine jd_iconst (v := 0) dX0_ofLand_22 (by decide) ?_
  exact jd_iret dX0_ofLand_23 rfl (jd_wr.ok hc0 rfl rfl (hw.out ho9) hs9 rfl (fun j a b => ho9 j (fun z => by rw [z] at b; exact absurd b (by decide))))

set_option maxRecDepth 20000 in
set_option maxHeartbeats 2000000 in
theorem ct_X0_ofGate {G : jd_G} {β : ll_B} {κ : ll_K} {h : jd_H} (hw : WC G β κ h) (hI : ll_I κ) {oA : Nat} {n0 : Int64} {sv : Value} (ho : WO oA n0 sv h) (g : Int32) (w : Int32) : jd_Ct G mX0_ofGate 13 (4) (24) [.ref (β 0 0), .int (g), .int (w), .ref (oA)] h (jd_wr G β κ h oA sv (c_ofGate κ g w) (gateVal κ (tN g) (tN w)) (κ)) jd_no := by
  refine jd_ctH (ls := [some (.ref (β 0 0)), some (.int (g)), some (.int (w)), some (.ref (oA)), none]) rfl rfl (by decide) (Nat.le_of_ble_eq_true rfl) rfl ?_
  refine jd_aload_n dX0_ofGate_0 rfl ?_
  refine jd_aload_n dX0_ofGate_1 rfl ?_
  refine jd_iload_n dX0_ofGate_2 rfl ?_
  refine jd_iload_n dX0_ofGate_3 rfl ?_
  have hkx : ∀ (E : String) (h2 : jd_H), (jd_th h (c_ofGate κ g w) nmA) E h2 → jd_X G mX0_ofGate 13 (4 - 4) (24 - 24) 4 [some (.ref (β 0 0)), some (.int (g)), some (.int (w)), some (.ref (oA)), none] E h2 (jd_wr G β κ h oA sv (c_ofGate κ g w) (gateVal κ (tN g) (tN w)) (κ)) jd_no := by
    intro E h2 hx
    obtain ⟨hc, hE, he⟩ := hx
    rw [hE, he]
    have hle := le_ofGate κ g w
    rcases (by omega : c_ofGate κ g w = 1 ∨ c_ofGate κ g w = 2) with e | e
    · rw [e]
      refine jd_catch (E := "java/lang/IndexOutOfBoundsException") [] (0, 11, 14, 19) [(0, 11, 18, 21)] rfl (fun z hz => absurd hz List.not_mem_nil) (by decide) (by decide) q608 q699 (fun q => ?_)
      show jd_W _ _ _ _ _ 14 _ _ _ _ _
      refine jd_astore (ls' := [_, _, _, _, _]) dX0_ofGate_14 (Nat.le_of_ble_eq_true rfl) rfl rfl ?_
      refine jd_iconst (v := 1) dX0_ofGate_16 (by decide) ?_
      exact jd_iret dX0_ofGate_17 rfl (jd_wr.no rfl (by decide) rfl hw ho)
    · rw [e]
      refine jd_catch (E := "java/lang/IllegalArgumentException") [(0, 11, 14, 19)] (0, 11, 18, 21) [] rfl (List.forall_mem_cons.mpr ⟨⟨by decide, _, q608, jd_ncA⟩, (fun z hz => absurd hz List.not_mem_nil)⟩) (by decide) (by decide) q685 q726 (fun q => ?_)
      show jd_W _ _ _ _ _ 18 _ _ _ _ _
      refine jd_astore (ls' := [_, _, _, _, _]) dX0_ofGate_18 (Nat.le_of_ble_eq_true rfl) rfl rfl ?_
      refine jd_iconst (v := 2) dX0_ofGate_20 (by decide) ?_
      exact jd_iret dX0_ofGate_21 rfl (jd_wr.no rfl (by decide) rfl hw ho)
  refine jd_callV (As := [.int (g), .int (w)]) (rest := [.ref (oA)]) (ct_X1_ofGate hw hI g w) (jd_rv ((w_this hw)) 0 rfl rfl) rfl q1138 q1139 q1140 q80 q1141 nX1_ofGate dX0_ofGate_4 rfl rfl rfl (Nat.le_of_ble_eq_true rfl) ⟨(Nat.le_of_ble_eq_true rfl), (Nat.le_of_ble_eq_true rfl), by omega, by omega⟩ (fun rv0 hn0 hq0 => ?_) hkx
  obtain ⟨hc0, rfl, he0⟩ := hq0
  rw [he0]
  have ho2 := ho.at
  refine jd_i2l dX0_ofGate_7 ?_
  refine jd_putN (fs' := [_, _]) in_X6 tyX6_ok nmX6 ho2 0 q598 dX0_ofGate_8 rfl (Nat.le_of_ble_eq_true rfl) rfl rfl rfl (Nat.le_of_ble_eq_true rfl) rfl ?_
  refine jd_updG (fun h9 hs9 ho9 => ?_)
  refine jd_goto (tgt := 22) dX0_ofGate_11 (by decide) ?_
  refine jd_iconst (v := 0) dX0_ofGate_22 (by decide) ?_
  exact jd_iret dX0_ofGate_23 rfl (jd_wr.ok hc0 rfl rfl (hw.out ho9) hs9 rfl (fun j a b => ho9 j (fun z => by rw [z] at b; exact absurd b (by decide))))

set_option maxRecDepth 20000 in
set_option maxHeartbeats 2000000 in
theorem ct_X0_ofSleeper {G : jd_G} {β : ll_B} {κ : ll_K} {h : jd_H} (hw : WC G β κ h) (hI : ll_I κ) {oA : Nat} {n0 : Int64} {sv : Value} (ho : WO oA n0 sv h) (s : Int32) (w : Int32) : jd_Ct G mX0_ofSleeper 13 (4) (24) [.ref (β 0 0), .int (s), .int (w), .ref (oA)] h (jd_wr G β κ h oA sv (c_ofSleeper κ s w) (sleeperVal κ (tN s) (tN w)) (κ)) jd_no := by
  refine jd_ctH (ls := [some (.ref (β 0 0)), some (.int (s)), some (.int (w)), some (.ref (oA)), none]) rfl rfl (by decide) (Nat.le_of_ble_eq_true rfl) rfl ?_
  refine jd_aload_n dX0_ofSleeper_0 rfl ?_
  refine jd_aload_n dX0_ofSleeper_1 rfl ?_
  refine jd_iload_n dX0_ofSleeper_2 rfl ?_
  refine jd_iload_n dX0_ofSleeper_3 rfl ?_
  have hkx : ∀ (E : String) (h2 : jd_H), (jd_th h (c_ofSleeper κ s w) nmA) E h2 → jd_X G mX0_ofSleeper 13 (4 - 4) (24 - 24) 4 [some (.ref (β 0 0)), some (.int (s)), some (.int (w)), some (.ref (oA)), none] E h2 (jd_wr G β κ h oA sv (c_ofSleeper κ s w) (sleeperVal κ (tN s) (tN w)) (κ)) jd_no := by
    intro E h2 hx
    obtain ⟨hc, hE, he⟩ := hx
    rw [hE, he]
    have hle := le_ofSleeper κ s w
    rcases (by omega : c_ofSleeper κ s w = 1 ∨ c_ofSleeper κ s w = 2) with e | e
    · rw [e]
      refine jd_catch (E := "java/lang/IndexOutOfBoundsException") [] (0, 11, 14, 19) [(0, 11, 18, 21)] rfl (fun z hz => absurd hz List.not_mem_nil) (by decide) (by decide) q608 q699 (fun q => ?_)
      show jd_W _ _ _ _ _ 14 _ _ _ _ _
      refine jd_astore (ls' := [_, _, _, _, _]) dX0_ofSleeper_14 (Nat.le_of_ble_eq_true rfl) rfl rfl ?_
      refine jd_iconst (v := 1) dX0_ofSleeper_16 (by decide) ?_
      exact jd_iret dX0_ofSleeper_17 rfl (jd_wr.no rfl (by decide) rfl hw ho)
    · rw [e]
      refine jd_catch (E := "java/lang/IllegalArgumentException") [(0, 11, 14, 19)] (0, 11, 18, 21) [] rfl (List.forall_mem_cons.mpr ⟨⟨by decide, _, q608, jd_ncA⟩, (fun z hz => absurd hz List.not_mem_nil)⟩) (by decide) (by decide) q685 q726 (fun q => ?_)
      show jd_W _ _ _ _ _ 18 _ _ _ _ _
      refine jd_astore (ls' := [_, _, _, _, _]) dX0_ofSleeper_18 (Nat.le_of_ble_eq_true rfl) rfl rfl ?_
      refine jd_iconst (v := 2) dX0_ofSleeper_20 (by decide) ?_
      exact jd_iret dX0_ofSleeper_21 rfl (jd_wr.no rfl (by decide) rfl hw ho)
  refine jd_callV (As := [.int (s), .int (w)]) (rest := [.ref (oA)]) (ct_X1_ofSleeper hw hI s w) (jd_rv ((w_this hw)) 0 rfl rfl) rfl q1145 q1146 q1147 q80 q1148 nX1_ofSleeper dX0_ofSleeper_4 rfl rfl rfl (Nat.le_of_ble_eq_true rfl) ⟨(Nat.le_of_ble_eq_true rfl), (Nat.le_of_ble_eq_true rfl), by omega, by omega⟩ (fun rv0 hn0 hq0 => ?_) hkx
  obtain ⟨hc0, rfl, he0⟩ := hq0
  rw [he0]
  have ho2 := ho.at
  refine jd_i2l dX0_ofSleeper_7 ?_
  refine jd_putN (fs' := [_, _]) in_X6 tyX6_ok nmX6 ho2 0 q598 dX0_ofSleeper_8 rfl (Nat.le_of_ble_eq_true rfl) rfl rfl rfl (Nat.le_of_ble_eq_true rfl) rfl ?_
  refine jd_updG (fun h9 hs9 ho9 => ?_)
  refine jd_goto (tgt := 22) dX0_ofSleeper_11 (by decide) ?_
  refine jd_iconst (v := 0) dX0_ofSleeper_22 (by decide) ?_
  exact jd_iret dX0_ofSleeper_23 rfl (jd_wr.ok hc0 rfl rfl (hw.out ho9) hs9 rfl (fun j a b => ho9 j (fun z => by rw [z] at b; exact absurd b (by decide))))

set_option maxRecDepth 20000 in
set_option maxHeartbeats 2000000 in
theorem ct_X0_ofPart {G : jd_G} {β : ll_B} {κ : ll_K} {h : jd_H} (hw : WC G β κ h) (hI : ll_I κ) {oA : Nat} {n0 : Int64} {sv : Value} (ho : WO oA n0 sv h) (p : Int32) (w : Int32) : jd_Ct G mX0_ofPart 13 (4) (24) [.ref (β 0 0), .int (p), .int (w), .ref (oA)] h (jd_wr G β κ h oA sv (c_ofPart κ p w) (partVal κ (tN p) (tN w)) (κ)) jd_no := by
  refine jd_ctH (ls := [some (.ref (β 0 0)), some (.int (p)), some (.int (w)), some (.ref (oA)), none]) rfl rfl (by decide) (Nat.le_of_ble_eq_true rfl) rfl ?_
  refine jd_aload_n dX0_ofPart_0 rfl ?_
  refine jd_aload_n dX0_ofPart_1 rfl ?_
  refine jd_iload_n dX0_ofPart_2 rfl ?_
  refine jd_iload_n dX0_ofPart_3 rfl ?_
  have hkx : ∀ (E : String) (h2 : jd_H), (jd_th h (c_ofPart κ p w) nmA) E h2 → jd_X G mX0_ofPart 13 (4 - 4) (24 - 24) 4 [some (.ref (β 0 0)), some (.int (p)), some (.int (w)), some (.ref (oA)), none] E h2 (jd_wr G β κ h oA sv (c_ofPart κ p w) (partVal κ (tN p) (tN w)) (κ)) jd_no := by
    intro E h2 hx
    obtain ⟨hc, hE, he⟩ := hx
    rw [hE, he]
    have hle := le_ofPart κ p w
    rcases (by omega : c_ofPart κ p w = 1 ∨ c_ofPart κ p w = 2) with e | e
    · rw [e]
      refine jd_catch (E := "java/lang/IndexOutOfBoundsException") [] (0, 11, 14, 19) [(0, 11, 18, 21)] rfl (fun z hz => absurd hz List.not_mem_nil) (by decide) (by decide) q608 q699 (fun q => ?_)
      show jd_W _ _ _ _ _ 14 _ _ _ _ _
      refine jd_astore (ls' := [_, _, _, _, _]) dX0_ofPart_14 (Nat.le_of_ble_eq_true rfl) rfl rfl ?_
      refine jd_iconst (v := 1) dX0_ofPart_16 (by decide) ?_
      exact jd_iret dX0_ofPart_17 rfl (jd_wr.no rfl (by decide) rfl hw ho)
    · rw [e]
      refine jd_catch (E := "java/lang/IllegalArgumentException") [(0, 11, 14, 19)] (0, 11, 18, 21) [] rfl (List.forall_mem_cons.mpr ⟨⟨by decide, _, q608, jd_ncA⟩, (fun z hz => absurd hz List.not_mem_nil)⟩) (by decide) (by decide) q685 q726 (fun q => ?_)
      show jd_W _ _ _ _ _ 18 _ _ _ _ _
      refine jd_astore (ls' := [_, _, _, _, _]) dX0_ofPart_18 (Nat.le_of_ble_eq_true rfl) rfl rfl ?_
      refine jd_iconst (v := 2) dX0_ofPart_20 (by decide) ?_
      exact jd_iret dX0_ofPart_21 rfl (jd_wr.no rfl (by decide) rfl hw ho)
  refine jd_callV (As := [.int (p), .int (w)]) (rest := [.ref (oA)]) (ct_X1_ofPart hw hI p w) (jd_rv ((w_this hw)) 0 rfl rfl) rfl q1152 q1153 q1154 q80 q1155 nX1_ofPart dX0_ofPart_4 rfl rfl rfl (Nat.le_of_ble_eq_true rfl) ⟨(Nat.le_of_ble_eq_true rfl), (Nat.le_of_ble_eq_true rfl), by omega, by omega⟩ (fun rv0 hn0 hq0 => ?_) hkx
  obtain ⟨hc0, rfl, he0⟩ := hq0
  rw [he0]
  have ho2 := ho.at
  refine jd_i2l dX0_ofPart_7 ?_
  refine jd_putN (fs' := [_, _]) in_X6 tyX6_ok nmX6 ho2 0 q598 dX0_ofPart_8 rfl (Nat.le_of_ble_eq_true rfl) rfl rfl rfl (Nat.le_of_ble_eq_true rfl) rfl ?_
  refine jd_updG (fun h9 hs9 ho9 => ?_)
  refine jd_goto (tgt := 22) dX0_ofPart_11 (by decide) ?_
  refine jd_iconst (v := 0) dX0_ofPart_22 (by decide) ?_
  exact jd_iret dX0_ofPart_23 rfl (jd_wr.ok hc0 rfl rfl (hw.out ho9) hs9 rfl (fun j a b => ho9 j (fun z => by rw [z] at b; exact absurd b (by decide))))

set_option maxRecDepth 20000 in
set_option maxHeartbeats 2000000 in
theorem ct_X0_isGood {G : jd_G} {β : ll_B} {κ : ll_K} {h : jd_H} (hw : WC G β κ h) (hI : ll_I κ) {oA : Nat} {n0 : Int64} {sv : Value} (ho : WO oA n0 sv h) (s : Int32) (g : Int32) : jd_Ct G mX0_isGood 13 (4) (24) [.ref (β 0 0), .int (s), .int (g), .ref (oA)] h (jd_wr G β κ h oA sv (c_isGood κ s g) (jd_b (goodNow κ (tN s) (tN g))) (κ)) jd_no := by
  refine jd_ctH (ls := [some (.ref (β 0 0)), some (.int (s)), some (.int (g)), some (.ref (oA)), none]) rfl rfl (by decide) (Nat.le_of_ble_eq_true rfl) rfl ?_
  refine jd_aload_n dX0_isGood_0 rfl ?_
  refine jd_aload_n dX0_isGood_1 rfl ?_
  refine jd_iload_n dX0_isGood_2 rfl ?_
  refine jd_iload_n dX0_isGood_3 rfl ?_
  have hkx : ∀ (E : String) (h2 : jd_H), (jd_th h (c_isGood κ s g) nmA) E h2 → jd_X G mX0_isGood 13 (4 - 4) (24 - 24) 4 [some (.ref (β 0 0)), some (.int (s)), some (.int (g)), some (.ref (oA)), none] E h2 (jd_wr G β κ h oA sv (c_isGood κ s g) (jd_b (goodNow κ (tN s) (tN g))) (κ)) jd_no := by
    intro E h2 hx
    obtain ⟨hc, hE, he⟩ := hx
    rw [hE, he]
    have hle := le_isGood κ s g
    have e : c_isGood κ s g = 1 := by omega
    rw [e]
    refine jd_catch (E := "java/lang/IndexOutOfBoundsException") [] (0, 18, 21, 19) [] rfl (fun z hz => absurd hz List.not_mem_nil) (by decide) (by decide) q608 q699 (fun q => ?_)
    show jd_W _ _ _ _ _ 21 _ _ _ _ _
    refine jd_astore (ls' := [_, _, _, _, _]) dX0_isGood_21 (Nat.le_of_ble_eq_true rfl) rfl rfl ?_
    refine jd_iconst (v := 1) dX0_isGood_23 (by decide) ?_
    exact jd_iret dX0_isGood_24 rfl (jd_wr.no rfl (by decide) rfl hw ho)
  refine jd_callV (As := [.int (s), .int (g)]) (rest := [.ref (oA)]) (ct_X1_isGood hw hI s g) (jd_rv ((w_this hw)) 0 rfl rfl) rfl q1159 q1160 q1161 q80 q1162 nX1_isGood dX0_isGood_4 rfl rfl rfl (Nat.le_of_ble_eq_true rfl) ⟨(Nat.le_of_ble_eq_true rfl), (Nat.le_of_ble_eq_true rfl), by omega, by omega⟩ (fun rv0 hn0 hq0 => ?_) hkx
  obtain ⟨hc0, rfl, he0⟩ := hq0
  rw [he0]
  have ho2 := ho.at
  refine jd_mg1 15 (.long ((if goodNow κ (tN s) (tN g) then 1 else 0))) (fun hj2 => ?_) ?_
  · refine jd_bif_eq (tgt := 14) dX0_isGood_7 (by decide) (fun z3 => ?_) (fun z4 => ?_)
    · refine jd_lconst (v := 0) dX0_isGood_14 (by decide) ?_
      exact jd_top (congrArg Value.long (by rw [if_neg z3])) hj2
    · refine jd_lconst (v := 1) dX0_isGood_10 (by decide) ?_
      refine jd_goto (tgt := 15) dX0_isGood_11 (by decide) ?_
      exact jd_top (congrArg Value.long (by rw [if_pos z4])) hj2
  · refine jd_putN (fs' := [_, _]) in_X6 tyX6_ok nmX6 ho2 0 q598 dX0_isGood_15 rfl (Nat.le_of_ble_eq_true rfl) rfl rfl rfl (Nat.le_of_ble_eq_true rfl) rfl ?_
    refine jd_updG (fun h9 hs9 ho9 => ?_)
    refine jd_goto (tgt := 25) dX0_isGood_18 (by decide) ?_
    refine jd_iconst (v := 0) dX0_isGood_25 (by decide) ?_
    exact jd_iret dX0_isGood_26 rfl (jd_wr.ok hc0 rfl rfl (hw.out ho9) hs9 jd_b64 (fun j a b => ho9 j (fun z => by rw [z] at b; exact absurd b (by decide))))

set_option maxRecDepth 20000 in
set_option maxHeartbeats 2000000 in
theorem ct_X0_night {G : jd_G} {β : ll_B} {κ : ll_K} {h : jd_H} (hw : WC G β κ h) (hI : ll_I κ) {oA : Nat} {n0 : Int64} {sv : Value} (ho : WO oA n0 sv h) (w : Int32) : jd_Ct G mX0_night 13 (4) (24) [.ref (β 0 0), .int (w), .ref (oA)] h (jd_wr G β κ h oA sv (c_night w) (nightVal κ (tN w)) (κ)) jd_no := by
  refine jd_ctH (ls := [some (.ref (β 0 0)), some (.int (w)), some (.ref (oA)), none]) rfl rfl (by decide) (Nat.le_of_ble_eq_true rfl) rfl ?_
  refine jd_aload_n dX0_night_0 rfl ?_
  refine jd_aload_n dX0_night_1 rfl ?_
  refine jd_iload_n dX0_night_2 rfl ?_
  have hkx : ∀ (E : String) (h2 : jd_H), (jd_th h (c_night w) nmC) E h2 → jd_X G mX0_night 13 (4 - 4) (24 - 24) 3 [some (.ref (β 0 0)), some (.int (w)), some (.ref (oA)), none] E h2 (jd_wr G β κ h oA sv (c_night w) (nightVal κ (tN w)) (κ)) jd_no := by
    intro E h2 hx
    obtain ⟨hc, hE, he⟩ := hx
    rw [hE, he]
    have hle := le_night w
    have e : c_night w = 1 := by omega
    rw [e]
    refine jd_catch (E := "java/lang/IllegalArgumentException") [] (0, 10, 13, 21) [] rfl (fun z hz => absurd hz List.not_mem_nil) (by decide) (by decide) q685 q726 (fun q => ?_)
    show jd_W _ _ _ _ _ 13 _ _ _ _ _
    refine jd_astore_n (ls' := [_, _, _, _]) dX0_night_13 (Nat.le_of_ble_eq_true rfl) rfl rfl ?_
    refine jd_iconst (v := 1) dX0_night_14 (by decide) ?_
    exact jd_iret dX0_night_15 rfl (jd_wr.no rfl (by decide) rfl hw ho)
  refine jd_callV (As := [.int (w)]) (rest := [.ref (oA)]) (ct_X1_night hw hI w) (jd_rv ((w_this hw)) 0 rfl rfl) rfl q1404 q1405 q1406 q80 q1407 nX1_night dX0_night_3 rfl rfl rfl (Nat.le_of_ble_eq_true rfl) ⟨(Nat.le_of_ble_eq_true rfl), (Nat.le_of_ble_eq_true rfl), by omega, by omega⟩ (fun rv0 hn0 hq0 => ?_) hkx
  obtain ⟨hc0, rfl, he0⟩ := hq0
  rw [he0]
  have ho2 := ho.at
  refine jd_i2l dX0_night_6 ?_
  refine jd_putN (fs' := [_, _]) in_X6 tyX6_ok nmX6 ho2 0 q598 dX0_night_7 rfl (Nat.le_of_ble_eq_true rfl) rfl rfl rfl (Nat.le_of_ble_eq_true rfl) rfl ?_
  refine jd_updG (fun h9 hs9 ho9 => ?_)
  refine jd_goto (tgt := 16) dX0_night_10 (by decide) ?_
  refine jd_iconst (v := 0) dX0_night_16 (by decide) ?_
  exact jd_iret dX0_night_17 rfl (jd_wr.ok hc0 rfl rfl (hw.out ho9) hs9 rfl (fun j a b => ho9 j (fun z => by rw [z] at b; exact absurd b (by decide))))

set_option maxRecDepth 20000 in
set_option maxHeartbeats 2000000 in
theorem ct_X0_way {G : jd_G} {β : ll_B} {κ : ll_K} {h : jd_H} (hw : WC G β κ h) (hI : ll_I κ) {oA : Nat} {n0 : Int64} {sv : Value} (ho : WO oA n0 sv h) (f : Int32) (t : Int32) : jd_Ct G mX0_way 12 (5) (30) [.ref (β 0 0), .int (f), .int (t), .ref (oA)] h (jd_wr G β κ h oA sv (c_way f t) (wayN κ (tN f) (tN t)) (κ)) jd_no := by
  refine jd_ctH (ls := [some (.ref (β 0 0)), some (.int (f)), some (.int (t)), some (.ref (oA)), none]) rfl rfl (by decide) (Nat.le_of_ble_eq_true rfl) rfl ?_
  refine jd_aload_n dX0_way_0 rfl ?_
  refine jd_aload_n dX0_way_1 rfl ?_
  refine jd_iload_n dX0_way_2 rfl ?_
  refine jd_iload_n dX0_way_3 rfl ?_
  have hkx : ∀ (E : String) (h2 : jd_H), (jd_th h (c_way f t) nmA) E h2 → jd_X G mX0_way 12 (5 - 5) (30 - 30) 4 [some (.ref (β 0 0)), some (.int (f)), some (.int (t)), some (.ref (oA)), none] E h2 (jd_wr G β κ h oA sv (c_way f t) (wayN κ (tN f) (tN t)) (κ)) jd_no := by
    intro E h2 hx
    obtain ⟨hc, hE, he⟩ := hx
    rw [hE, he]
    have hle := le_way f t
    have e : c_way f t = 1 := by omega
    rw [e]
    refine jd_catch (E := "java/lang/IndexOutOfBoundsException") [] (0, 11, 14, 19) [] rfl (fun z hz => absurd hz List.not_mem_nil) (by decide) (by decide) q608 q699 (fun q => ?_)
    show jd_W _ _ _ _ _ 14 _ _ _ _ _
    refine jd_astore (ls' := [_, _, _, _, _]) dX0_way_14 (Nat.le_of_ble_eq_true rfl) rfl rfl ?_
    refine jd_iconst (v := 1) dX0_way_16 (by decide) ?_
    exact jd_iret dX0_way_17 rfl (jd_wr.no rfl (by decide) rfl hw ho)
  refine jd_callV (As := [.int (f), .int (t)]) (rest := [.ref (oA)]) (ct_X1_way hw hI f t) (jd_rv ((w_this hw)) 0 rfl rfl) rfl q1411 q1412 q1413 q80 q1414 nX1_way dX0_way_4 rfl rfl rfl (Nat.le_of_ble_eq_true rfl) ⟨(Nat.le_of_ble_eq_true rfl), (Nat.le_of_ble_eq_true rfl), by omega, by omega⟩ (fun rv0 hn0 hq0 => ?_) hkx
  obtain ⟨hc0, rfl, he0⟩ := hq0
  rw [he0]
  have ho2 := ho.at
  refine jd_i2l dX0_way_7 ?_
  refine jd_putN (fs' := [_, _]) in_X6 tyX6_ok nmX6 ho2 0 q598 dX0_way_8 rfl (Nat.le_of_ble_eq_true rfl) rfl rfl rfl (Nat.le_of_ble_eq_true rfl) rfl ?_
  refine jd_updG (fun h9 hs9 ho9 => ?_)
  refine jd_goto (tgt := 18) dX0_way_11 (by decide) ?_
  refine jd_iconst (v := 0) dX0_way_18 (by decide) ?_
  exact jd_iret dX0_way_19 rfl (jd_wr.ok hc0 rfl rfl (hw.out ho9) hs9 rfl (fun j a b => ho9 j (fun z => by rw [z] at b; exact absurd b (by decide))))

set_option maxRecDepth 20000 in
set_option maxHeartbeats 2000000 in
theorem ct_X0_plan {G : jd_G} {β : ll_B} {κ : ll_K} {h : jd_H} (hw : WC G β κ h) (hI : ll_I κ) {oA : Nat} {n0 : Int64} {sv : Value} (ho : WO oA n0 sv h) (p : Int32) (g : Int32) : jd_Ct G mX0_plan 13 (14) (762) [.ref (β 0 0), .int (p), .int (g), .ref (oA)] h (jd_wr G β κ h oA sv (c_plan κ p g) (planVal κ (tN p) (oN g)) (κ)) jd_no := by
  refine jd_ctH (ls := [some (.ref (β 0 0)), some (.int (p)), some (.int (g)), some (.ref (oA)), none]) rfl rfl (by decide) (Nat.le_of_ble_eq_true rfl) rfl ?_
  refine jd_aload_n dX0_plan_0 rfl ?_
  refine jd_aload_n dX0_plan_1 rfl ?_
  refine jd_iload_n dX0_plan_2 rfl ?_
  refine jd_iload_n dX0_plan_3 rfl ?_
  have hkx : ∀ (E : String) (h2 : jd_H), (jd_th h (c_plan κ p g) nmA) E h2 → jd_X G mX0_plan 13 (14 - 14) (762 - 762) 4 [some (.ref (β 0 0)), some (.int (p)), some (.int (g)), some (.ref (oA)), none] E h2 (jd_wr G β κ h oA sv (c_plan κ p g) (planVal κ (tN p) (oN g)) (κ)) jd_no := by
    intro E h2 hx
    obtain ⟨hc, hE, he⟩ := hx
    rw [hE, he]
    have hle := le_plan κ p g
    rcases (by omega : c_plan κ p g = 1 ∨ c_plan κ p g = 2) with e | e
    · rw [e]
      refine jd_catch (E := "java/lang/IndexOutOfBoundsException") [] (0, 11, 14, 19) [(0, 11, 18, 21)] rfl (fun z hz => absurd hz List.not_mem_nil) (by decide) (by decide) q608 q699 (fun q => ?_)
      show jd_W _ _ _ _ _ 14 _ _ _ _ _
      refine jd_astore (ls' := [_, _, _, _, _]) dX0_plan_14 (Nat.le_of_ble_eq_true rfl) rfl rfl ?_
      refine jd_iconst (v := 1) dX0_plan_16 (by decide) ?_
      exact jd_iret dX0_plan_17 rfl (jd_wr.no rfl (by decide) rfl hw ho)
    · rw [e]
      refine jd_catch (E := "java/lang/IllegalArgumentException") [(0, 11, 14, 19)] (0, 11, 18, 21) [] rfl (List.forall_mem_cons.mpr ⟨⟨by decide, _, q608, jd_ncA⟩, (fun z hz => absurd hz List.not_mem_nil)⟩) (by decide) (by decide) q685 q726 (fun q => ?_)
      show jd_W _ _ _ _ _ 18 _ _ _ _ _
      refine jd_astore (ls' := [_, _, _, _, _]) dX0_plan_18 (Nat.le_of_ble_eq_true rfl) rfl rfl ?_
      refine jd_iconst (v := 2) dX0_plan_20 (by decide) ?_
      exact jd_iret dX0_plan_21 rfl (jd_wr.no rfl (by decide) rfl hw ho)
  refine jd_callV (As := [.int (p), .int (g)]) (rest := [.ref (oA)]) (ct_X1_plan hw hI p g) (jd_rv ((w_this hw)) 0 rfl rfl) rfl q1418 q1419 q1420 q80 q1421 nX1_plan dX0_plan_4 rfl rfl rfl (Nat.le_of_ble_eq_true rfl) ⟨(Nat.le_of_ble_eq_true rfl), (Nat.le_of_ble_eq_true rfl), by omega, by omega⟩ (fun rv0 hn0 hq0 => ?_) hkx
  obtain ⟨hc0, rfl, he0⟩ := hq0
  rw [he0]
  have ho2 := ho.at
  refine jd_i2l dX0_plan_7 ?_
  refine jd_putN (fs' := [_, _]) in_X6 tyX6_ok nmX6 ho2 0 q598 dX0_plan_8 rfl (Nat.le_of_ble_eq_true rfl) rfl rfl rfl (Nat.le_of_ble_eq_true rfl) rfl ?_
  refine jd_updG (fun h9 hs9 ho9 => ?_)
  refine jd_goto (tgt := 22) dX0_plan_11 (by decide) ?_
  refine jd_iconst (v := 0) dX0_plan_22 (by decide) ?_
  exact jd_iret dX0_plan_23 rfl (jd_wr.ok hc0 rfl rfl (hw.out ho9) hs9 rfl (fun j a b => ho9 j (fun z => by rw [z] at b; exact absurd b (by decide))))

set_option maxRecDepth 20000 in
set_option maxHeartbeats 2000000 in
theorem ct_X0_wouldPay {G : jd_G} {β : ll_B} {κ : ll_K} {h : jd_H} (hw : WC G β κ h) (hI : ll_I κ) {oA : Nat} {n0 : Int64} {sv : Value} (ho : WO oA n0 sv h) (g : Int32) : jd_Ct G mX0_wouldPay 13 (4) (24) [.ref (β 0 0), .int (g), .ref (oA)] h (jd_wr G β κ h oA sv (c_gate1 κ g) (wouldPay κ (tN g)) (κ)) jd_no := by
  refine jd_ctH (ls := [some (.ref (β 0 0)), some (.int (g)), some (.ref (oA)), none]) rfl rfl (by decide) (Nat.le_of_ble_eq_true rfl) rfl ?_
  refine jd_aload_n dX0_wouldPay_0 rfl ?_
  refine jd_aload_n dX0_wouldPay_1 rfl ?_
  refine jd_iload_n dX0_wouldPay_2 rfl ?_
  have hkx : ∀ (E : String) (h2 : jd_H), (jd_th h (c_gate1 κ g) nmA) E h2 → jd_X G mX0_wouldPay 13 (4 - 4) (24 - 24) 3 [some (.ref (β 0 0)), some (.int (g)), some (.ref (oA)), none] E h2 (jd_wr G β κ h oA sv (c_gate1 κ g) (wouldPay κ (tN g)) (κ)) jd_no := by
    intro E h2 hx
    obtain ⟨hc, hE, he⟩ := hx
    rw [hE, he]
    have hle := le_gate1 κ g
    have e : c_gate1 κ g = 1 := by omega
    rw [e]
    refine jd_catch (E := "java/lang/IndexOutOfBoundsException") [] (0, 10, 13, 19) [] rfl (fun z hz => absurd hz List.not_mem_nil) (by decide) (by decide) q608 q699 (fun q => ?_)
    show jd_W _ _ _ _ _ 13 _ _ _ _ _
    refine jd_astore_n (ls' := [_, _, _, _]) dX0_wouldPay_13 (Nat.le_of_ble_eq_true rfl) rfl rfl ?_
    refine jd_iconst (v := 1) dX0_wouldPay_14 (by decide) ?_
    exact jd_iret dX0_wouldPay_15 rfl (jd_wr.no rfl (by decide) rfl hw ho)
  refine jd_callV (As := [.int (g)]) (rest := [.ref (oA)]) (ct_X1_wouldPay hw hI g) (jd_rv ((w_this hw)) 0 rfl rfl) rfl q1425 q1426 q1427 q80 q1428 nX1_wouldPay dX0_wouldPay_3 rfl rfl rfl (Nat.le_of_ble_eq_true rfl) ⟨(Nat.le_of_ble_eq_true rfl), (Nat.le_of_ble_eq_true rfl), by omega, by omega⟩ (fun rv0 hn0 hq0 => ?_) hkx
  obtain ⟨hc0, rfl, he0⟩ := hq0
  rw [he0]
  have ho2 := ho.at
  refine jd_i2l dX0_wouldPay_6 ?_
  refine jd_putN (fs' := [_, _]) in_X6 tyX6_ok nmX6 ho2 0 q598 dX0_wouldPay_7 rfl (Nat.le_of_ble_eq_true rfl) rfl rfl rfl (Nat.le_of_ble_eq_true rfl) rfl ?_
  refine jd_updG (fun h9 hs9 ho9 => ?_)
  refine jd_goto (tgt := 16) dX0_wouldPay_10 (by decide) ?_
  refine jd_iconst (v := 0) dX0_wouldPay_16 (by decide) ?_
  exact jd_iret dX0_wouldPay_17 rfl (jd_wr.ok hc0 rfl rfl (hw.out ho9) hs9 rfl (fun j a b => ho9 j (fun z => by rw [z] at b; exact absurd b (by decide))))
