/-! ===== zu: written fields (printed by mk_wu.py) ===== -/
set_option maxHeartbeats 400000 in
theorem wu_lRate {G : jd_G} {β : ll_B} {κ : ll_K} {h h' : jd_H} (hw : WC G β κ h) {k : Nat} (hk : k < 6) {v : Int32} (hs : h' (3, k) = some (β 1 k, .inl (.inr (2, [.int v, .int ((lAll κ k)), .int ((lQuo κ k)), .int ((lNight κ k)), .int ((lDut κ k)), .int ((lFin κ k))])))) (ho : ∀ j, j ≠ (3, k) → h' j = h j) : WC G β (ll_sz κ 0 k v) h' := by
  have e1 : lRate (ll_sz κ 0 k v) k = v := if_pos ⟨rfl, rfl⟩
  have fw_this := w_this hw
  have fw_row := w_row hw
  have fw_land := w_land hw
  have fw_gate := w_gate hw
  have fw_sleeper := w_sleeper hw
  have fw_part := w_part hw
  have fw_lands := w_lands hw
  have fw_gates := w_gates hw
  have fw_sleepers := w_sleepers hw
  have fw_parts := w_parts hw
  have fw_hidings := w_hidings hw
  have fw_queue := w_queue hw
  have fw_rev := w_rev hw
  have fw_passN := w_passN hw
  have fw_pass := w_pass hw
  have fw_hid := w_hid hw
  have fw_free := w_free hw
  refine ⟨?_, ?_, ?_, ?_, ?_, ?_, ?_, ?_, ?_, ?_, ?_, ?_, ?_, ?_, ?_, ?_, ?_⟩
  · exact (ho _ (fun z => by cases z)).trans fw_this
  · exact (ho _ (fun z => by cases z)).trans fw_row
  · exact fun j hj => by
      by_cases e : j = k
      · subst e; exact hs.trans (by first | (rw [e1]; done) | (rw [e1]; rfl))
      · have e2 : lRate (ll_sz κ 0 k v) j = lRate κ j := if_neg (fun z => e z.2)
        exact (ho _ (fun z => e (by cases z; rfl))).trans ((fw_land j hj).trans (by first | (rw [e2]; done) | (rw [e2]; rfl)))
  · exact fun j hj => (ho _ (fun z => by cases z)).trans (fw_gate j hj)
  · exact fun j hj => (ho _ (fun z => by cases z)).trans (fw_sleeper j hj)
  · exact fun j hj => (ho _ (fun z => by cases z)).trans (fw_part j hj)
  · exact by obtain ⟨m, hm⟩ := fw_lands; exact ⟨m, (ho _ (fun z => by cases z)).trans hm⟩
  · exact by obtain ⟨m, hm⟩ := fw_gates; exact ⟨m, (ho _ (fun z => by cases z)).trans hm⟩
  · exact by obtain ⟨m, hm⟩ := fw_sleepers; exact ⟨m, (ho _ (fun z => by cases z)).trans hm⟩
  · exact by obtain ⟨m, hm⟩ := fw_parts; exact ⟨m, (ho _ (fun z => by cases z)).trans hm⟩
  · exact by obtain ⟨m, hm⟩ := fw_hidings; exact ⟨m, (ho _ (fun z => by cases z)).trans hm⟩
  · exact fun j hj => by obtain ⟨m, hm⟩ := fw_queue j hj; exact ⟨m, (ho _ (fun z => by cases z)).trans hm⟩
  · exact fun j hj => (ho _ (fun z => by cases z)).trans (fw_rev j hj)
  · exact fun j hj hp => fw_passN j hj hp
  · exact fun j hj p hp => ⟨(ho _ (fun z => by cases z)).trans (fw_pass j hj p hp).1, (ho _ (fun z => by cases z)).trans (fw_pass j hj p hp).2⟩
  · exact fun j hj => (ho _ (fun z => by cases z)).trans (fw_hid j hj)
  · exact fun j => ⟨fun w => ⟨(ho _ (fun z => by cases z)).trans ((fw_free j).1 w).1, (ho _ (fun z => by cases z)).trans ((fw_free j).1 w).2.1, (ho _ (fun z => by cases z)).trans ((fw_free j).1 w).2.2⟩, fun w => (ho _ (fun z => by cases z)).trans ((fw_free j).2.1 w), fun w => (ho _ (fun z => by cases z)).trans ((fw_free j).2.2 w)⟩
set_option maxHeartbeats 400000 in
theorem wu_lAll {G : jd_G} {β : ll_B} {κ : ll_K} {h h' : jd_H} (hw : WC G β κ h) {k : Nat} (hk : k < 6) {v : Int32} (hs : h' (3, k) = some (β 1 k, .inl (.inr (2, [.int ((lRate κ k)), .int v, .int ((lQuo κ k)), .int ((lNight κ k)), .int ((lDut κ k)), .int ((lFin κ k))])))) (ho : ∀ j, j ≠ (3, k) → h' j = h j) : WC G β (ll_sz κ 1 k v) h' := by
  have e1 : lAll (ll_sz κ 1 k v) k = v := if_pos ⟨rfl, rfl⟩
  have fw_this := w_this hw
  have fw_row := w_row hw
  have fw_land := w_land hw
  have fw_gate := w_gate hw
  have fw_sleeper := w_sleeper hw
  have fw_part := w_part hw
  have fw_lands := w_lands hw
  have fw_gates := w_gates hw
  have fw_sleepers := w_sleepers hw
  have fw_parts := w_parts hw
  have fw_hidings := w_hidings hw
  have fw_queue := w_queue hw
  have fw_rev := w_rev hw
  have fw_passN := w_passN hw
  have fw_pass := w_pass hw
  have fw_hid := w_hid hw
  have fw_free := w_free hw
  refine ⟨?_, ?_, ?_, ?_, ?_, ?_, ?_, ?_, ?_, ?_, ?_, ?_, ?_, ?_, ?_, ?_, ?_⟩
  · exact (ho _ (fun z => by cases z)).trans fw_this
  · exact (ho _ (fun z => by cases z)).trans fw_row
  · exact fun j hj => by
      by_cases e : j = k
      · subst e; exact hs.trans (by first | (rw [e1]; done) | (rw [e1]; rfl))
      · have e2 : lAll (ll_sz κ 1 k v) j = lAll κ j := if_neg (fun z => e z.2)
        exact (ho _ (fun z => e (by cases z; rfl))).trans ((fw_land j hj).trans (by first | (rw [e2]; done) | (rw [e2]; rfl)))
  · exact fun j hj => (ho _ (fun z => by cases z)).trans (fw_gate j hj)
  · exact fun j hj => (ho _ (fun z => by cases z)).trans (fw_sleeper j hj)
  · exact fun j hj => (ho _ (fun z => by cases z)).trans (fw_part j hj)
  · exact by obtain ⟨m, hm⟩ := fw_lands; exact ⟨m, (ho _ (fun z => by cases z)).trans hm⟩
  · exact by obtain ⟨m, hm⟩ := fw_gates; exact ⟨m, (ho _ (fun z => by cases z)).trans hm⟩
  · exact by obtain ⟨m, hm⟩ := fw_sleepers; exact ⟨m, (ho _ (fun z => by cases z)).trans hm⟩
  · exact by obtain ⟨m, hm⟩ := fw_parts; exact ⟨m, (ho _ (fun z => by cases z)).trans hm⟩
  · exact by obtain ⟨m, hm⟩ := fw_hidings; exact ⟨m, (ho _ (fun z => by cases z)).trans hm⟩
  · exact fun j hj => by obtain ⟨m, hm⟩ := fw_queue j hj; exact ⟨m, (ho _ (fun z => by cases z)).trans hm⟩
  · exact fun j hj => (ho _ (fun z => by cases z)).trans (fw_rev j hj)
  · exact fun j hj hp => fw_passN j hj hp
  · exact fun j hj p hp => ⟨(ho _ (fun z => by cases z)).trans (fw_pass j hj p hp).1, (ho _ (fun z => by cases z)).trans (fw_pass j hj p hp).2⟩
  · exact fun j hj => (ho _ (fun z => by cases z)).trans (fw_hid j hj)
  · exact fun j => ⟨fun w => ⟨(ho _ (fun z => by cases z)).trans ((fw_free j).1 w).1, (ho _ (fun z => by cases z)).trans ((fw_free j).1 w).2.1, (ho _ (fun z => by cases z)).trans ((fw_free j).1 w).2.2⟩, fun w => (ho _ (fun z => by cases z)).trans ((fw_free j).2.1 w), fun w => (ho _ (fun z => by cases z)).trans ((fw_free j).2.2 w)⟩
set_option maxHeartbeats 400000 in
theorem wu_lQuo {G : jd_G} {β : ll_B} {κ : ll_K} {h h' : jd_H} (hw : WC G β κ h) {k : Nat} (hk : k < 6) {v : Int32} (hs : h' (3, k) = some (β 1 k, .inl (.inr (2, [.int ((lRate κ k)), .int ((lAll κ k)), .int v, .int ((lNight κ k)), .int ((lDut κ k)), .int ((lFin κ k))])))) (ho : ∀ j, j ≠ (3, k) → h' j = h j) : WC G β (ll_sz κ 2 k v) h' := by
  have e1 : lQuo (ll_sz κ 2 k v) k = v := if_pos ⟨rfl, rfl⟩
  have fw_this := w_this hw
  have fw_row := w_row hw
  have fw_land := w_land hw
  have fw_gate := w_gate hw
  have fw_sleeper := w_sleeper hw
  have fw_part := w_part hw
  have fw_lands := w_lands hw
  have fw_gates := w_gates hw
  have fw_sleepers := w_sleepers hw
  have fw_parts := w_parts hw
  have fw_hidings := w_hidings hw
  have fw_queue := w_queue hw
  have fw_rev := w_rev hw
  have fw_passN := w_passN hw
  have fw_pass := w_pass hw
  have fw_hid := w_hid hw
  have fw_free := w_free hw
  refine ⟨?_, ?_, ?_, ?_, ?_, ?_, ?_, ?_, ?_, ?_, ?_, ?_, ?_, ?_, ?_, ?_, ?_⟩
  · exact (ho _ (fun z => by cases z)).trans fw_this
  · exact (ho _ (fun z => by cases z)).trans fw_row
  · exact fun j hj => by
      by_cases e : j = k
      · subst e; exact hs.trans (by first | (rw [e1]; done) | (rw [e1]; rfl))
      · have e2 : lQuo (ll_sz κ 2 k v) j = lQuo κ j := if_neg (fun z => e z.2)
        exact (ho _ (fun z => e (by cases z; rfl))).trans ((fw_land j hj).trans (by first | (rw [e2]; done) | (rw [e2]; rfl)))
  · exact fun j hj => (ho _ (fun z => by cases z)).trans (fw_gate j hj)
  · exact fun j hj => (ho _ (fun z => by cases z)).trans (fw_sleeper j hj)
  · exact fun j hj => (ho _ (fun z => by cases z)).trans (fw_part j hj)
  · exact by obtain ⟨m, hm⟩ := fw_lands; exact ⟨m, (ho _ (fun z => by cases z)).trans hm⟩
  · exact by obtain ⟨m, hm⟩ := fw_gates; exact ⟨m, (ho _ (fun z => by cases z)).trans hm⟩
  · exact by obtain ⟨m, hm⟩ := fw_sleepers; exact ⟨m, (ho _ (fun z => by cases z)).trans hm⟩
  · exact by obtain ⟨m, hm⟩ := fw_parts; exact ⟨m, (ho _ (fun z => by cases z)).trans hm⟩
  · exact by obtain ⟨m, hm⟩ := fw_hidings; exact ⟨m, (ho _ (fun z => by cases z)).trans hm⟩
  · exact fun j hj => by obtain ⟨m, hm⟩ := fw_queue j hj; exact ⟨m, (ho _ (fun z => by cases z)).trans hm⟩
  · exact fun j hj => (ho _ (fun z => by cases z)).trans (fw_rev j hj)
  · exact fun j hj hp => fw_passN j hj hp
  · exact fun j hj p hp => ⟨(ho _ (fun z => by cases z)).trans (fw_pass j hj p hp).1, (ho _ (fun z => by cases z)).trans (fw_pass j hj p hp).2⟩
  · exact fun j hj => (ho _ (fun z => by cases z)).trans (fw_hid j hj)
  · exact fun j => ⟨fun w => ⟨(ho _ (fun z => by cases z)).trans ((fw_free j).1 w).1, (ho _ (fun z => by cases z)).trans ((fw_free j).1 w).2.1, (ho _ (fun z => by cases z)).trans ((fw_free j).1 w).2.2⟩, fun w => (ho _ (fun z => by cases z)).trans ((fw_free j).2.1 w), fun w => (ho _ (fun z => by cases z)).trans ((fw_free j).2.2 w)⟩
set_option maxHeartbeats 400000 in
theorem wu_lNight {G : jd_G} {β : ll_B} {κ : ll_K} {h h' : jd_H} (hw : WC G β κ h) {k : Nat} (hk : k < 6) {v : Int32} (hs : h' (3, k) = some (β 1 k, .inl (.inr (2, [.int ((lRate κ k)), .int ((lAll κ k)), .int ((lQuo κ k)), .int v, .int ((lDut κ k)), .int ((lFin κ k))])))) (ho : ∀ j, j ≠ (3, k) → h' j = h j) : WC G β (ll_sz κ 3 k v) h' := by
  have e1 : lNight (ll_sz κ 3 k v) k = v := if_pos ⟨rfl, rfl⟩
  have fw_this := w_this hw
  have fw_row := w_row hw
  have fw_land := w_land hw
  have fw_gate := w_gate hw
  have fw_sleeper := w_sleeper hw
  have fw_part := w_part hw
  have fw_lands := w_lands hw
  have fw_gates := w_gates hw
  have fw_sleepers := w_sleepers hw
  have fw_parts := w_parts hw
  have fw_hidings := w_hidings hw
  have fw_queue := w_queue hw
  have fw_rev := w_rev hw
  have fw_passN := w_passN hw
  have fw_pass := w_pass hw
  have fw_hid := w_hid hw
  have fw_free := w_free hw
  refine ⟨?_, ?_, ?_, ?_, ?_, ?_, ?_, ?_, ?_, ?_, ?_, ?_, ?_, ?_, ?_, ?_, ?_⟩
  · exact (ho _ (fun z => by cases z)).trans fw_this
  · exact (ho _ (fun z => by cases z)).trans fw_row
  · exact fun j hj => by
      by_cases e : j = k
      · subst e; exact hs.trans (by first | (rw [e1]; done) | (rw [e1]; rfl))
      · have e2 : lNight (ll_sz κ 3 k v) j = lNight κ j := if_neg (fun z => e z.2)
        exact (ho _ (fun z => e (by cases z; rfl))).trans ((fw_land j hj).trans (by first | (rw [e2]; done) | (rw [e2]; rfl)))
  · exact fun j hj => (ho _ (fun z => by cases z)).trans (fw_gate j hj)
  · exact fun j hj => (ho _ (fun z => by cases z)).trans (fw_sleeper j hj)
  · exact fun j hj => (ho _ (fun z => by cases z)).trans (fw_part j hj)
  · exact by obtain ⟨m, hm⟩ := fw_lands; exact ⟨m, (ho _ (fun z => by cases z)).trans hm⟩
  · exact by obtain ⟨m, hm⟩ := fw_gates; exact ⟨m, (ho _ (fun z => by cases z)).trans hm⟩
  · exact by obtain ⟨m, hm⟩ := fw_sleepers; exact ⟨m, (ho _ (fun z => by cases z)).trans hm⟩
  · exact by obtain ⟨m, hm⟩ := fw_parts; exact ⟨m, (ho _ (fun z => by cases z)).trans hm⟩
  · exact by obtain ⟨m, hm⟩ := fw_hidings; exact ⟨m, (ho _ (fun z => by cases z)).trans hm⟩
  · exact fun j hj => by obtain ⟨m, hm⟩ := fw_queue j hj; exact ⟨m, (ho _ (fun z => by cases z)).trans hm⟩
  · exact fun j hj => (ho _ (fun z => by cases z)).trans (fw_rev j hj)
  · exact fun j hj hp => fw_passN j hj hp
  · exact fun j hj p hp => ⟨(ho _ (fun z => by cases z)).trans (fw_pass j hj p hp).1, (ho _ (fun z => by cases z)).trans (fw_pass j hj p hp).2⟩
  · exact fun j hj => (ho _ (fun z => by cases z)).trans (fw_hid j hj)
  · exact fun j => ⟨fun w => ⟨(ho _ (fun z => by cases z)).trans ((fw_free j).1 w).1, (ho _ (fun z => by cases z)).trans ((fw_free j).1 w).2.1, (ho _ (fun z => by cases z)).trans ((fw_free j).1 w).2.2⟩, fun w => (ho _ (fun z => by cases z)).trans ((fw_free j).2.1 w), fun w => (ho _ (fun z => by cases z)).trans ((fw_free j).2.2 w)⟩
set_option maxHeartbeats 400000 in
theorem wu_lDut {G : jd_G} {β : ll_B} {κ : ll_K} {h h' : jd_H} (hw : WC G β κ h) {k : Nat} (hk : k < 6) {v : Int32} (hs : h' (3, k) = some (β 1 k, .inl (.inr (2, [.int ((lRate κ k)), .int ((lAll κ k)), .int ((lQuo κ k)), .int ((lNight κ k)), .int v, .int ((lFin κ k))])))) (ho : ∀ j, j ≠ (3, k) → h' j = h j) : WC G β (ll_sz κ 4 k v) h' := by
  have e1 : lDut (ll_sz κ 4 k v) k = v := if_pos ⟨rfl, rfl⟩
  have fw_this := w_this hw
  have fw_row := w_row hw
  have fw_land := w_land hw
  have fw_gate := w_gate hw
  have fw_sleeper := w_sleeper hw
  have fw_part := w_part hw
  have fw_lands := w_lands hw
  have fw_gates := w_gates hw
  have fw_sleepers := w_sleepers hw
  have fw_parts := w_parts hw
  have fw_hidings := w_hidings hw
  have fw_queue := w_queue hw
  have fw_rev := w_rev hw
  have fw_passN := w_passN hw
  have fw_pass := w_pass hw
  have fw_hid := w_hid hw
  have fw_free := w_free hw
  refine ⟨?_, ?_, ?_, ?_, ?_, ?_, ?_, ?_, ?_, ?_, ?_, ?_, ?_, ?_, ?_, ?_, ?_⟩
  · exact (ho _ (fun z => by cases z)).trans fw_this
  · exact (ho _ (fun z => by cases z)).trans fw_row
  · exact fun j hj => by
      by_cases e : j = k
      · subst e; exact hs.trans (by first | (rw [e1]; done) | (rw [e1]; rfl))
      · have e2 : lDut (ll_sz κ 4 k v) j = lDut κ j := if_neg (fun z => e z.2)
        exact (ho _ (fun z => e (by cases z; rfl))).trans ((fw_land j hj).trans (by first | (rw [e2]; done) | (rw [e2]; rfl)))
  · exact fun j hj => (ho _ (fun z => by cases z)).trans (fw_gate j hj)
  · exact fun j hj => (ho _ (fun z => by cases z)).trans (fw_sleeper j hj)
  · exact fun j hj => (ho _ (fun z => by cases z)).trans (fw_part j hj)
  · exact by obtain ⟨m, hm⟩ := fw_lands; exact ⟨m, (ho _ (fun z => by cases z)).trans hm⟩
  · exact by obtain ⟨m, hm⟩ := fw_gates; exact ⟨m, (ho _ (fun z => by cases z)).trans hm⟩
  · exact by obtain ⟨m, hm⟩ := fw_sleepers; exact ⟨m, (ho _ (fun z => by cases z)).trans hm⟩
  · exact by obtain ⟨m, hm⟩ := fw_parts; exact ⟨m, (ho _ (fun z => by cases z)).trans hm⟩
  · exact by obtain ⟨m, hm⟩ := fw_hidings; exact ⟨m, (ho _ (fun z => by cases z)).trans hm⟩
  · exact fun j hj => by obtain ⟨m, hm⟩ := fw_queue j hj; exact ⟨m, (ho _ (fun z => by cases z)).trans hm⟩
  · exact fun j hj => (ho _ (fun z => by cases z)).trans (fw_rev j hj)
  · exact fun j hj hp => fw_passN j hj hp
  · exact fun j hj p hp => ⟨(ho _ (fun z => by cases z)).trans (fw_pass j hj p hp).1, (ho _ (fun z => by cases z)).trans (fw_pass j hj p hp).2⟩
  · exact fun j hj => (ho _ (fun z => by cases z)).trans (fw_hid j hj)
  · exact fun j => ⟨fun w => ⟨(ho _ (fun z => by cases z)).trans ((fw_free j).1 w).1, (ho _ (fun z => by cases z)).trans ((fw_free j).1 w).2.1, (ho _ (fun z => by cases z)).trans ((fw_free j).1 w).2.2⟩, fun w => (ho _ (fun z => by cases z)).trans ((fw_free j).2.1 w), fun w => (ho _ (fun z => by cases z)).trans ((fw_free j).2.2 w)⟩
set_option maxHeartbeats 400000 in
theorem wu_lFin {G : jd_G} {β : ll_B} {κ : ll_K} {h h' : jd_H} (hw : WC G β κ h) {k : Nat} (hk : k < 6) {v : Int32} (hs : h' (3, k) = some (β 1 k, .inl (.inr (2, [.int ((lRate κ k)), .int ((lAll κ k)), .int ((lQuo κ k)), .int ((lNight κ k)), .int ((lDut κ k)), .int v])))) (ho : ∀ j, j ≠ (3, k) → h' j = h j) : WC G β (ll_sz κ 5 k v) h' := by
  have e1 : lFin (ll_sz κ 5 k v) k = v := if_pos ⟨rfl, rfl⟩
  have fw_this := w_this hw
  have fw_row := w_row hw
  have fw_land := w_land hw
  have fw_gate := w_gate hw
  have fw_sleeper := w_sleeper hw
  have fw_part := w_part hw
  have fw_lands := w_lands hw
  have fw_gates := w_gates hw
  have fw_sleepers := w_sleepers hw
  have fw_parts := w_parts hw
  have fw_hidings := w_hidings hw
  have fw_queue := w_queue hw
  have fw_rev := w_rev hw
  have fw_passN := w_passN hw
  have fw_pass := w_pass hw
  have fw_hid := w_hid hw
  have fw_free := w_free hw
  refine ⟨?_, ?_, ?_, ?_, ?_, ?_, ?_, ?_, ?_, ?_, ?_, ?_, ?_, ?_, ?_, ?_, ?_⟩
  · exact (ho _ (fun z => by cases z)).trans fw_this
  · exact (ho _ (fun z => by cases z)).trans fw_row
  · exact fun j hj => by
      by_cases e : j = k
      · subst e; exact hs.trans (by first | (rw [e1]; done) | (rw [e1]; rfl))
      · have e2 : lFin (ll_sz κ 5 k v) j = lFin κ j := if_neg (fun z => e z.2)
        exact (ho _ (fun z => e (by cases z; rfl))).trans ((fw_land j hj).trans (by first | (rw [e2]; done) | (rw [e2]; rfl)))
  · exact fun j hj => (ho _ (fun z => by cases z)).trans (fw_gate j hj)
  · exact fun j hj => (ho _ (fun z => by cases z)).trans (fw_sleeper j hj)
  · exact fun j hj => (ho _ (fun z => by cases z)).trans (fw_part j hj)
  · exact by obtain ⟨m, hm⟩ := fw_lands; exact ⟨m, (ho _ (fun z => by cases z)).trans hm⟩
  · exact by obtain ⟨m, hm⟩ := fw_gates; exact ⟨m, (ho _ (fun z => by cases z)).trans hm⟩
  · exact by obtain ⟨m, hm⟩ := fw_sleepers; exact ⟨m, (ho _ (fun z => by cases z)).trans hm⟩
  · exact by obtain ⟨m, hm⟩ := fw_parts; exact ⟨m, (ho _ (fun z => by cases z)).trans hm⟩
  · exact by obtain ⟨m, hm⟩ := fw_hidings; exact ⟨m, (ho _ (fun z => by cases z)).trans hm⟩
  · exact fun j hj => by obtain ⟨m, hm⟩ := fw_queue j hj; exact ⟨m, (ho _ (fun z => by cases z)).trans hm⟩
  · exact fun j hj => (ho _ (fun z => by cases z)).trans (fw_rev j hj)
  · exact fun j hj hp => fw_passN j hj hp
  · exact fun j hj p hp => ⟨(ho _ (fun z => by cases z)).trans (fw_pass j hj p hp).1, (ho _ (fun z => by cases z)).trans (fw_pass j hj p hp).2⟩
  · exact fun j hj => (ho _ (fun z => by cases z)).trans (fw_hid j hj)
  · exact fun j => ⟨fun w => ⟨(ho _ (fun z => by cases z)).trans ((fw_free j).1 w).1, (ho _ (fun z => by cases z)).trans ((fw_free j).1 w).2.1, (ho _ (fun z => by cases z)).trans ((fw_free j).1 w).2.2⟩, fun w => (ho _ (fun z => by cases z)).trans ((fw_free j).2.1 w), fun w => (ho _ (fun z => by cases z)).trans ((fw_free j).2.2 w)⟩
set_option maxHeartbeats 400000 in
theorem wu_gOdds {G : jd_G} {β : ll_B} {κ : ll_K} {h h' : jd_H} (hw : WC G β κ h) {k : Nat} (hk : k < nG κ) {v : Int32} (hs : h' (4, k) = some (β 2 k, .inl (.inr (3, [.int (nI ((gOne κ k))), .int (nI ((gOther κ k))), .int ((gFrom κ k)), .int ((gHours κ k)), .int v, .int ((gWatch κ k)), .ref (β 4 k), .ref (β 3 k)])))) (ho : ∀ j, j ≠ (4, k) → h' j = h j) : WC G β (ll_sz κ 9 k v) h' := by
  have e1 : gOdds (ll_sz κ 9 k v) k = v := if_pos ⟨rfl, rfl⟩
  have fw_this := w_this hw
  have fw_row := w_row hw
  have fw_land := w_land hw
  have fw_gate := w_gate hw
  have fw_sleeper := w_sleeper hw
  have fw_part := w_part hw
  have fw_lands := w_lands hw
  have fw_gates := w_gates hw
  have fw_sleepers := w_sleepers hw
  have fw_parts := w_parts hw
  have fw_hidings := w_hidings hw
  have fw_queue := w_queue hw
  have fw_rev := w_rev hw
  have fw_passN := w_passN hw
  have fw_pass := w_pass hw
  have fw_hid := w_hid hw
  have fw_free := w_free hw
  refine ⟨?_, ?_, ?_, ?_, ?_, ?_, ?_, ?_, ?_, ?_, ?_, ?_, ?_, ?_, ?_, ?_, ?_⟩
  · exact (ho _ (fun z => by cases z)).trans fw_this
  · exact (ho _ (fun z => by cases z)).trans fw_row
  · exact fun j hj => (ho _ (fun z => by cases z)).trans (fw_land j hj)
  · exact fun j hj => by
      by_cases e : j = k
      · subst e; exact hs.trans (by first | (rw [e1]; done) | (rw [e1]; rfl))
      · have e2 : gOdds (ll_sz κ 9 k v) j = gOdds κ j := if_neg (fun z => e z.2)
        exact (ho _ (fun z => e (by cases z; rfl))).trans ((fw_gate j hj).trans (by first | (rw [e2]; done) | (rw [e2]; rfl)))
  · exact fun j hj => (ho _ (fun z => by cases z)).trans (fw_sleeper j hj)
  · exact fun j hj => (ho _ (fun z => by cases z)).trans (fw_part j hj)
  · exact by obtain ⟨m, hm⟩ := fw_lands; exact ⟨m, (ho _ (fun z => by cases z)).trans hm⟩
  · exact by obtain ⟨m, hm⟩ := fw_gates; exact ⟨m, (ho _ (fun z => by cases z)).trans hm⟩
  · exact by obtain ⟨m, hm⟩ := fw_sleepers; exact ⟨m, (ho _ (fun z => by cases z)).trans hm⟩
  · exact by obtain ⟨m, hm⟩ := fw_parts; exact ⟨m, (ho _ (fun z => by cases z)).trans hm⟩
  · exact by obtain ⟨m, hm⟩ := fw_hidings; exact ⟨m, (ho _ (fun z => by cases z)).trans hm⟩
  · exact fun j hj => by obtain ⟨m, hm⟩ := fw_queue j hj; exact ⟨m, (ho _ (fun z => by cases z)).trans hm⟩
  · exact fun j hj => (ho _ (fun z => by cases z)).trans (fw_rev j hj)
  · exact fun j hj hp => fw_passN j hj hp
  · exact fun j hj p hp => ⟨(ho _ (fun z => by cases z)).trans (fw_pass j hj p hp).1, (ho _ (fun z => by cases z)).trans (fw_pass j hj p hp).2⟩
  · exact fun j hj => (ho _ (fun z => by cases z)).trans (fw_hid j hj)
  · exact fun j => ⟨fun w => ⟨(ho _ (fun z => by cases z; have w2 : nG κ ≤ k := w; omega)).trans ((fw_free j).1 w).1, (ho _ (fun z => by cases z)).trans ((fw_free j).1 w).2.1, (ho _ (fun z => by cases z)).trans ((fw_free j).1 w).2.2⟩, fun w => (ho _ (fun z => by cases z)).trans ((fw_free j).2.1 w), fun w => (ho _ (fun z => by cases z)).trans ((fw_free j).2.2 w)⟩
set_option maxHeartbeats 400000 in
theorem wu_gWatch {G : jd_G} {β : ll_B} {κ : ll_K} {h h' : jd_H} (hw : WC G β κ h) {k : Nat} (hk : k < nG κ) {v : Int32} (hs : h' (4, k) = some (β 2 k, .inl (.inr (3, [.int (nI ((gOne κ k))), .int (nI ((gOther κ k))), .int ((gFrom κ k)), .int ((gHours κ k)), .int ((gOdds κ k)), .int v, .ref (β 4 k), .ref (β 3 k)])))) (ho : ∀ j, j ≠ (4, k) → h' j = h j) : WC G β (ll_sz κ 10 k v) h' := by
  have e1 : gWatch (ll_sz κ 10 k v) k = v := if_pos ⟨rfl, rfl⟩
  have fw_this := w_this hw
  have fw_row := w_row hw
  have fw_land := w_land hw
  have fw_gate := w_gate hw
  have fw_sleeper := w_sleeper hw
  have fw_part := w_part hw
  have fw_lands := w_lands hw
  have fw_gates := w_gates hw
  have fw_sleepers := w_sleepers hw
  have fw_parts := w_parts hw
  have fw_hidings := w_hidings hw
  have fw_queue := w_queue hw
  have fw_rev := w_rev hw
  have fw_passN := w_passN hw
  have fw_pass := w_pass hw
  have fw_hid := w_hid hw
  have fw_free := w_free hw
  refine ⟨?_, ?_, ?_, ?_, ?_, ?_, ?_, ?_, ?_, ?_, ?_, ?_, ?_, ?_, ?_, ?_, ?_⟩
  · exact (ho _ (fun z => by cases z)).trans fw_this
  · exact (ho _ (fun z => by cases z)).trans fw_row
  · exact fun j hj => (ho _ (fun z => by cases z)).trans (fw_land j hj)
  · exact fun j hj => by
      by_cases e : j = k
      · subst e; exact hs.trans (by first | (rw [e1]; done) | (rw [e1]; rfl))
      · have e2 : gWatch (ll_sz κ 10 k v) j = gWatch κ j := if_neg (fun z => e z.2)
        exact (ho _ (fun z => e (by cases z; rfl))).trans ((fw_gate j hj).trans (by first | (rw [e2]; done) | (rw [e2]; rfl)))
  · exact fun j hj => (ho _ (fun z => by cases z)).trans (fw_sleeper j hj)
  · exact fun j hj => (ho _ (fun z => by cases z)).trans (fw_part j hj)
  · exact by obtain ⟨m, hm⟩ := fw_lands; exact ⟨m, (ho _ (fun z => by cases z)).trans hm⟩
  · exact by obtain ⟨m, hm⟩ := fw_gates; exact ⟨m, (ho _ (fun z => by cases z)).trans hm⟩
  · exact by obtain ⟨m, hm⟩ := fw_sleepers; exact ⟨m, (ho _ (fun z => by cases z)).trans hm⟩
  · exact by obtain ⟨m, hm⟩ := fw_parts; exact ⟨m, (ho _ (fun z => by cases z)).trans hm⟩
  · exact by obtain ⟨m, hm⟩ := fw_hidings; exact ⟨m, (ho _ (fun z => by cases z)).trans hm⟩
  · exact fun j hj => by obtain ⟨m, hm⟩ := fw_queue j hj; exact ⟨m, (ho _ (fun z => by cases z)).trans hm⟩
  · exact fun j hj => (ho _ (fun z => by cases z)).trans (fw_rev j hj)
  · exact fun j hj hp => fw_passN j hj hp
  · exact fun j hj p hp => ⟨(ho _ (fun z => by cases z)).trans (fw_pass j hj p hp).1, (ho _ (fun z => by cases z)).trans (fw_pass j hj p hp).2⟩
  · exact fun j hj => (ho _ (fun z => by cases z)).trans (fw_hid j hj)
  · exact fun j => ⟨fun w => ⟨(ho _ (fun z => by cases z; have w2 : nG κ ≤ k := w; omega)).trans ((fw_free j).1 w).1, (ho _ (fun z => by cases z)).trans ((fw_free j).1 w).2.1, (ho _ (fun z => by cases z)).trans ((fw_free j).1 w).2.2⟩, fun w => (ho _ (fun z => by cases z)).trans ((fw_free j).2.1 w), fun w => (ho _ (fun z => by cases z)).trans ((fw_free j).2.2 w)⟩
set_option maxHeartbeats 400000 in
theorem wu_sLand {G : jd_G} {β : ll_B} {κ : ll_K} {h h' : jd_H} (hw : WC G β κ h) {k : Nat} (hk : k < nS κ) {v : Nat} (hs : h' (7, k) = some (β 5 k, .inl (.inr (4, [.int (nI k), .int (jd_b (sBaby κ k = true)), .int (nI v), .int ((sPat κ k)), .ref (jd_rA G (sRest κ k)), .int ((oI (sGate κ k))), .int ((sDecl κ k)), .ref (β 6 k)])))) (ho : ∀ j, j ≠ (7, k) → h' j = h j) : WC G β (ll_sn κ 2 k v) h' := by
  have e1 : sLand (ll_sn κ 2 k v) k = v := if_pos ⟨rfl, rfl⟩
  have fw_this := w_this hw
  have fw_row := w_row hw
  have fw_land := w_land hw
  have fw_gate := w_gate hw
  have fw_sleeper := w_sleeper hw
  have fw_part := w_part hw
  have fw_lands := w_lands hw
  have fw_gates := w_gates hw
  have fw_sleepers := w_sleepers hw
  have fw_parts := w_parts hw
  have fw_hidings := w_hidings hw
  have fw_queue := w_queue hw
  have fw_rev := w_rev hw
  have fw_passN := w_passN hw
  have fw_pass := w_pass hw
  have fw_hid := w_hid hw
  have fw_free := w_free hw
  refine ⟨?_, ?_, ?_, ?_, ?_, ?_, ?_, ?_, ?_, ?_, ?_, ?_, ?_, ?_, ?_, ?_, ?_⟩
  · exact (ho _ (fun z => by cases z)).trans fw_this
  · exact (ho _ (fun z => by cases z)).trans fw_row
  · exact fun j hj => (ho _ (fun z => by cases z)).trans (fw_land j hj)
  · exact fun j hj => (ho _ (fun z => by cases z)).trans (fw_gate j hj)
  · exact fun j hj => by
      by_cases e : j = k
      · subst e; exact hs.trans (by first | (rw [e1]; done) | (rw [e1]; rfl))
      · have e2 : sLand (ll_sn κ 2 k v) j = sLand κ j := if_neg (fun z => e z.2)
        exact (ho _ (fun z => e (by cases z; rfl))).trans ((fw_sleeper j hj).trans (by first | (rw [e2]; done) | (rw [e2]; rfl)))
  · exact fun j hj => (ho _ (fun z => by cases z)).trans (fw_part j hj)
  · exact by obtain ⟨m, hm⟩ := fw_lands; exact ⟨m, (ho _ (fun z => by cases z)).trans hm⟩
  · exact by obtain ⟨m, hm⟩ := fw_gates; exact ⟨m, (ho _ (fun z => by cases z)).trans hm⟩
  · exact by obtain ⟨m, hm⟩ := fw_sleepers; exact ⟨m, (ho _ (fun z => by cases z)).trans hm⟩
  · exact by obtain ⟨m, hm⟩ := fw_parts; exact ⟨m, (ho _ (fun z => by cases z)).trans hm⟩
  · exact by obtain ⟨m, hm⟩ := fw_hidings; exact ⟨m, (ho _ (fun z => by cases z)).trans hm⟩
  · exact fun j hj => by obtain ⟨m, hm⟩ := fw_queue j hj; exact ⟨m, (ho _ (fun z => by cases z)).trans hm⟩
  · exact fun j hj => (ho _ (fun z => by cases z)).trans (fw_rev j hj)
  · exact fun j hj hp => fw_passN j hj hp
  · exact fun j hj p hp => ⟨(ho _ (fun z => by cases z)).trans (fw_pass j hj p hp).1, (ho _ (fun z => by cases z)).trans (fw_pass j hj p hp).2⟩
  · exact fun j hj => (ho _ (fun z => by cases z)).trans (fw_hid j hj)
  · exact fun j => ⟨fun w => ⟨(ho _ (fun z => by cases z)).trans ((fw_free j).1 w).1, (ho _ (fun z => by cases z)).trans ((fw_free j).1 w).2.1, (ho _ (fun z => by cases z)).trans ((fw_free j).1 w).2.2⟩, fun w => (ho _ (fun z => by cases z; have w2 : nS κ ≤ k := w; omega)).trans ((fw_free j).2.1 w), fun w => (ho _ (fun z => by cases z)).trans ((fw_free j).2.2 w)⟩
set_option maxHeartbeats 400000 in
theorem wu_sPat {G : jd_G} {β : ll_B} {κ : ll_K} {h h' : jd_H} (hw : WC G β κ h) {k : Nat} (hk : k < nS κ) {v : Int32} (hs : h' (7, k) = some (β 5 k, .inl (.inr (4, [.int (nI k), .int (jd_b (sBaby κ k = true)), .int (nI ((sLand κ k))), .int v, .ref (jd_rA G (sRest κ k)), .int ((oI (sGate κ k))), .int ((sDecl κ k)), .ref (β 6 k)])))) (ho : ∀ j, j ≠ (7, k) → h' j = h j) : WC G β (ll_sz κ 11 k v) h' := by
  have e1 : sPat (ll_sz κ 11 k v) k = v := if_pos ⟨rfl, rfl⟩
  have fw_this := w_this hw
  have fw_row := w_row hw
  have fw_land := w_land hw
  have fw_gate := w_gate hw
  have fw_sleeper := w_sleeper hw
  have fw_part := w_part hw
  have fw_lands := w_lands hw
  have fw_gates := w_gates hw
  have fw_sleepers := w_sleepers hw
  have fw_parts := w_parts hw
  have fw_hidings := w_hidings hw
  have fw_queue := w_queue hw
  have fw_rev := w_rev hw
  have fw_passN := w_passN hw
  have fw_pass := w_pass hw
  have fw_hid := w_hid hw
  have fw_free := w_free hw
  refine ⟨?_, ?_, ?_, ?_, ?_, ?_, ?_, ?_, ?_, ?_, ?_, ?_, ?_, ?_, ?_, ?_, ?_⟩
  · exact (ho _ (fun z => by cases z)).trans fw_this
  · exact (ho _ (fun z => by cases z)).trans fw_row
  · exact fun j hj => (ho _ (fun z => by cases z)).trans (fw_land j hj)
  · exact fun j hj => (ho _ (fun z => by cases z)).trans (fw_gate j hj)
  · exact fun j hj => by
      by_cases e : j = k
      · subst e; exact hs.trans (by first | (rw [e1]; done) | (rw [e1]; rfl))
      · have e2 : sPat (ll_sz κ 11 k v) j = sPat κ j := if_neg (fun z => e z.2)
        exact (ho _ (fun z => e (by cases z; rfl))).trans ((fw_sleeper j hj).trans (by first | (rw [e2]; done) | (rw [e2]; rfl)))
  · exact fun j hj => (ho _ (fun z => by cases z)).trans (fw_part j hj)
  · exact by obtain ⟨m, hm⟩ := fw_lands; exact ⟨m, (ho _ (fun z => by cases z)).trans hm⟩
  · exact by obtain ⟨m, hm⟩ := fw_gates; exact ⟨m, (ho _ (fun z => by cases z)).trans hm⟩
  · exact by obtain ⟨m, hm⟩ := fw_sleepers; exact ⟨m, (ho _ (fun z => by cases z)).trans hm⟩
  · exact by obtain ⟨m, hm⟩ := fw_parts; exact ⟨m, (ho _ (fun z => by cases z)).trans hm⟩
  · exact by obtain ⟨m, hm⟩ := fw_hidings; exact ⟨m, (ho _ (fun z => by cases z)).trans hm⟩
  · exact fun j hj => by obtain ⟨m, hm⟩ := fw_queue j hj; exact ⟨m, (ho _ (fun z => by cases z)).trans hm⟩
  · exact fun j hj => (ho _ (fun z => by cases z)).trans (fw_rev j hj)
  · exact fun j hj hp => fw_passN j hj hp
  · exact fun j hj p hp => ⟨(ho _ (fun z => by cases z)).trans (fw_pass j hj p hp).1, (ho _ (fun z => by cases z)).trans (fw_pass j hj p hp).2⟩
  · exact fun j hj => (ho _ (fun z => by cases z)).trans (fw_hid j hj)
  · exact fun j => ⟨fun w => ⟨(ho _ (fun z => by cases z)).trans ((fw_free j).1 w).1, (ho _ (fun z => by cases z)).trans ((fw_free j).1 w).2.1, (ho _ (fun z => by cases z)).trans ((fw_free j).1 w).2.2⟩, fun w => (ho _ (fun z => by cases z; have w2 : nS κ ≤ k := w; omega)).trans ((fw_free j).2.1 w), fun w => (ho _ (fun z => by cases z)).trans ((fw_free j).2.2 w)⟩
set_option maxHeartbeats 400000 in
theorem wu_sRest {G : jd_G} {β : ll_B} {κ : ll_K} {h h' : jd_H} (hw : WC G β κ h) {k : Nat} (hk : k < nS κ) {v : Nat} (hs : h' (7, k) = some (β 5 k, .inl (.inr (4, [.int (nI k), .int (jd_b (sBaby κ k = true)), .int (nI ((sLand κ k))), .int ((sPat κ k)), .ref (jd_rA G v), .int ((oI (sGate κ k))), .int ((sDecl κ k)), .ref (β 6 k)])))) (ho : ∀ j, j ≠ (7, k) → h' j = h j) : WC G β (ll_sn κ 3 k v) h' := by
  have e1 : sRest (ll_sn κ 3 k v) k = v := if_pos ⟨rfl, rfl⟩
  have fw_this := w_this hw
  have fw_row := w_row hw
  have fw_land := w_land hw
  have fw_gate := w_gate hw
  have fw_sleeper := w_sleeper hw
  have fw_part := w_part hw
  have fw_lands := w_lands hw
  have fw_gates := w_gates hw
  have fw_sleepers := w_sleepers hw
  have fw_parts := w_parts hw
  have fw_hidings := w_hidings hw
  have fw_queue := w_queue hw
  have fw_rev := w_rev hw
  have fw_passN := w_passN hw
  have fw_pass := w_pass hw
  have fw_hid := w_hid hw
  have fw_free := w_free hw
  refine ⟨?_, ?_, ?_, ?_, ?_, ?_, ?_, ?_, ?_, ?_, ?_, ?_, ?_, ?_, ?_, ?_, ?_⟩
  · exact (ho _ (fun z => by cases z)).trans fw_this
  · exact (ho _ (fun z => by cases z)).trans fw_row
  · exact fun j hj => (ho _ (fun z => by cases z)).trans (fw_land j hj)
  · exact fun j hj => (ho _ (fun z => by cases z)).trans (fw_gate j hj)
  · exact fun j hj => by
      by_cases e : j = k
      · subst e; exact hs.trans (by first | (rw [e1]; done) | (rw [e1]; rfl))
      · have e2 : sRest (ll_sn κ 3 k v) j = sRest κ j := if_neg (fun z => e z.2)
        exact (ho _ (fun z => e (by cases z; rfl))).trans ((fw_sleeper j hj).trans (by first | (rw [e2]; done) | (rw [e2]; rfl)))
  · exact fun j hj => (ho _ (fun z => by cases z)).trans (fw_part j hj)
  · exact by obtain ⟨m, hm⟩ := fw_lands; exact ⟨m, (ho _ (fun z => by cases z)).trans hm⟩
  · exact by obtain ⟨m, hm⟩ := fw_gates; exact ⟨m, (ho _ (fun z => by cases z)).trans hm⟩
  · exact by obtain ⟨m, hm⟩ := fw_sleepers; exact ⟨m, (ho _ (fun z => by cases z)).trans hm⟩
  · exact by obtain ⟨m, hm⟩ := fw_parts; exact ⟨m, (ho _ (fun z => by cases z)).trans hm⟩
  · exact by obtain ⟨m, hm⟩ := fw_hidings; exact ⟨m, (ho _ (fun z => by cases z)).trans hm⟩
  · exact fun j hj => by obtain ⟨m, hm⟩ := fw_queue j hj; exact ⟨m, (ho _ (fun z => by cases z)).trans hm⟩
  · exact fun j hj => (ho _ (fun z => by cases z)).trans (fw_rev j hj)
  · exact fun j hj hp => fw_passN j hj hp
  · exact fun j hj p hp => ⟨(ho _ (fun z => by cases z)).trans (fw_pass j hj p hp).1, (ho _ (fun z => by cases z)).trans (fw_pass j hj p hp).2⟩
  · exact fun j hj => (ho _ (fun z => by cases z)).trans (fw_hid j hj)
  · exact fun j => ⟨fun w => ⟨(ho _ (fun z => by cases z)).trans ((fw_free j).1 w).1, (ho _ (fun z => by cases z)).trans ((fw_free j).1 w).2.1, (ho _ (fun z => by cases z)).trans ((fw_free j).1 w).2.2⟩, fun w => (ho _ (fun z => by cases z; have w2 : nS κ ≤ k := w; omega)).trans ((fw_free j).2.1 w), fun w => (ho _ (fun z => by cases z)).trans ((fw_free j).2.2 w)⟩
set_option maxHeartbeats 400000 in
theorem wu_sGate {G : jd_G} {β : ll_B} {κ : ll_K} {h h' : jd_H} (hw : WC G β κ h) {k : Nat} (hk : k < nS κ) {v : Option Nat} (hs : h' (7, k) = some (β 5 k, .inl (.inr (4, [.int (nI k), .int (jd_b (sBaby κ k = true)), .int (nI ((sLand κ k))), .int ((sPat κ k)), .ref (jd_rA G (sRest κ k)), .int (oI v), .int ((sDecl κ k)), .ref (β 6 k)])))) (ho : ∀ j, j ≠ (7, k) → h' j = h j) : WC G β (ll_so κ 0 k v) h' := by
  have e1 : sGate (ll_so κ 0 k v) k = v := if_pos ⟨rfl, rfl⟩
  have fw_this := w_this hw
  have fw_row := w_row hw
  have fw_land := w_land hw
  have fw_gate := w_gate hw
  have fw_sleeper := w_sleeper hw
  have fw_part := w_part hw
  have fw_lands := w_lands hw
  have fw_gates := w_gates hw
  have fw_sleepers := w_sleepers hw
  have fw_parts := w_parts hw
  have fw_hidings := w_hidings hw
  have fw_queue := w_queue hw
  have fw_rev := w_rev hw
  have fw_passN := w_passN hw
  have fw_pass := w_pass hw
  have fw_hid := w_hid hw
  have fw_free := w_free hw
  refine ⟨?_, ?_, ?_, ?_, ?_, ?_, ?_, ?_, ?_, ?_, ?_, ?_, ?_, ?_, ?_, ?_, ?_⟩
  · exact (ho _ (fun z => by cases z)).trans fw_this
  · exact (ho _ (fun z => by cases z)).trans fw_row
  · exact fun j hj => (ho _ (fun z => by cases z)).trans (fw_land j hj)
  · exact fun j hj => (ho _ (fun z => by cases z)).trans (fw_gate j hj)
  · exact fun j hj => by
      by_cases e : j = k
      · subst e; exact hs.trans (by first | (rw [e1]; done) | (rw [e1]; rfl))
      · have e2 : sGate (ll_so κ 0 k v) j = sGate κ j := if_neg (fun z => e z.2)
        exact (ho _ (fun z => e (by cases z; rfl))).trans ((fw_sleeper j hj).trans (by first | (rw [e2]; done) | (rw [e2]; rfl)))
  · exact fun j hj => (ho _ (fun z => by cases z)).trans (fw_part j hj)
  · exact by obtain ⟨m, hm⟩ := fw_lands; exact ⟨m, (ho _ (fun z => by cases z)).trans hm⟩
  · exact by obtain ⟨m, hm⟩ := fw_gates; exact ⟨m, (ho _ (fun z => by cases z)).trans hm⟩
  · exact by obtain ⟨m, hm⟩ := fw_sleepers; exact ⟨m, (ho _ (fun z => by cases z)).trans hm⟩
  · exact by obtain ⟨m, hm⟩ := fw_parts; exact ⟨m, (ho _ (fun z => by cases z)).trans hm⟩
  · exact by obtain ⟨m, hm⟩ := fw_hidings; exact ⟨m, (ho _ (fun z => by cases z)).trans hm⟩
  · exact fun j hj => by obtain ⟨m, hm⟩ := fw_queue j hj; exact ⟨m, (ho _ (fun z => by cases z)).trans hm⟩
  · exact fun j hj => (ho _ (fun z => by cases z)).trans (fw_rev j hj)
  · exact fun j hj hp => fw_passN j hj hp
  · exact fun j hj p hp => ⟨(ho _ (fun z => by cases z)).trans (fw_pass j hj p hp).1, (ho _ (fun z => by cases z)).trans (fw_pass j hj p hp).2⟩
  · exact fun j hj => (ho _ (fun z => by cases z)).trans (fw_hid j hj)
  · exact fun j => ⟨fun w => ⟨(ho _ (fun z => by cases z)).trans ((fw_free j).1 w).1, (ho _ (fun z => by cases z)).trans ((fw_free j).1 w).2.1, (ho _ (fun z => by cases z)).trans ((fw_free j).1 w).2.2⟩, fun w => (ho _ (fun z => by cases z; have w2 : nS κ ≤ k := w; omega)).trans ((fw_free j).2.1 w), fun w => (ho _ (fun z => by cases z)).trans ((fw_free j).2.2 w)⟩
set_option maxHeartbeats 400000 in
theorem wu_sDecl {G : jd_G} {β : ll_B} {κ : ll_K} {h h' : jd_H} (hw : WC G β κ h) {k : Nat} (hk : k < nS κ) {v : Int32} (hs : h' (7, k) = some (β 5 k, .inl (.inr (4, [.int (nI k), .int (jd_b (sBaby κ k = true)), .int (nI ((sLand κ k))), .int ((sPat κ k)), .ref (jd_rA G (sRest κ k)), .int ((oI (sGate κ k))), .int v, .ref (β 6 k)])))) (ho : ∀ j, j ≠ (7, k) → h' j = h j) : WC G β (ll_sz κ 12 k v) h' := by
  have e1 : sDecl (ll_sz κ 12 k v) k = v := if_pos ⟨rfl, rfl⟩
  have fw_this := w_this hw
  have fw_row := w_row hw
  have fw_land := w_land hw
  have fw_gate := w_gate hw
  have fw_sleeper := w_sleeper hw
  have fw_part := w_part hw
  have fw_lands := w_lands hw
  have fw_gates := w_gates hw
  have fw_sleepers := w_sleepers hw
  have fw_parts := w_parts hw
  have fw_hidings := w_hidings hw
  have fw_queue := w_queue hw
  have fw_rev := w_rev hw
  have fw_passN := w_passN hw
  have fw_pass := w_pass hw
  have fw_hid := w_hid hw
  have fw_free := w_free hw
  refine ⟨?_, ?_, ?_, ?_, ?_, ?_, ?_, ?_, ?_, ?_, ?_, ?_, ?_, ?_, ?_, ?_, ?_⟩
  · exact (ho _ (fun z => by cases z)).trans fw_this
  · exact (ho _ (fun z => by cases z)).trans fw_row
  · exact fun j hj => (ho _ (fun z => by cases z)).trans (fw_land j hj)
  · exact fun j hj => (ho _ (fun z => by cases z)).trans (fw_gate j hj)
  · exact fun j hj => by
      by_cases e : j = k
      · subst e; exact hs.trans (by first | (rw [e1]; done) | (rw [e1]; rfl))
      · have e2 : sDecl (ll_sz κ 12 k v) j = sDecl κ j := if_neg (fun z => e z.2)
        exact (ho _ (fun z => e (by cases z; rfl))).trans ((fw_sleeper j hj).trans (by first | (rw [e2]; done) | (rw [e2]; rfl)))
  · exact fun j hj => (ho _ (fun z => by cases z)).trans (fw_part j hj)
  · exact by obtain ⟨m, hm⟩ := fw_lands; exact ⟨m, (ho _ (fun z => by cases z)).trans hm⟩
  · exact by obtain ⟨m, hm⟩ := fw_gates; exact ⟨m, (ho _ (fun z => by cases z)).trans hm⟩
  · exact by obtain ⟨m, hm⟩ := fw_sleepers; exact ⟨m, (ho _ (fun z => by cases z)).trans hm⟩
  · exact by obtain ⟨m, hm⟩ := fw_parts; exact ⟨m, (ho _ (fun z => by cases z)).trans hm⟩
  · exact by obtain ⟨m, hm⟩ := fw_hidings; exact ⟨m, (ho _ (fun z => by cases z)).trans hm⟩
  · exact fun j hj => by obtain ⟨m, hm⟩ := fw_queue j hj; exact ⟨m, (ho _ (fun z => by cases z)).trans hm⟩
  · exact fun j hj => (ho _ (fun z => by cases z)).trans (fw_rev j hj)
  · exact fun j hj hp => fw_passN j hj hp
  · exact fun j hj p hp => ⟨(ho _ (fun z => by cases z)).trans (fw_pass j hj p hp).1, (ho _ (fun z => by cases z)).trans (fw_pass j hj p hp).2⟩
  · exact fun j hj => (ho _ (fun z => by cases z)).trans (fw_hid j hj)
  · exact fun j => ⟨fun w => ⟨(ho _ (fun z => by cases z)).trans ((fw_free j).1 w).1, (ho _ (fun z => by cases z)).trans ((fw_free j).1 w).2.1, (ho _ (fun z => by cases z)).trans ((fw_free j).1 w).2.2⟩, fun w => (ho _ (fun z => by cases z; have w2 : nS κ ≤ k := w; omega)).trans ((fw_free j).2.1 w), fun w => (ho _ (fun z => by cases z)).trans ((fw_free j).2.2 w)⟩
set_option maxHeartbeats 400000 in
theorem wu_pHead {G : jd_G} {β : ll_B} {κ : ll_K} {h h' : jd_H} (hw : WC G β κ h) {k : Nat} (hk : k < nP κ) {v : Option Nat} (hs : h' (10, k) = some (β 8 k, .inl (.inr (5, [.int (nI ((pDream κ k))), .int ((pWorth κ k)), .int ((pDread κ k)), .int (oI v), .int ((oI (pStore κ k))), .ref (jd_fA G (pFate κ k)), .int ((oI (pBy κ k)))])))) (ho : ∀ j, j ≠ (10, k) → h' j = h j) : WC G β (ll_so κ 1 k v) h' := by
  have e1 : pHead (ll_so κ 1 k v) k = v := if_pos ⟨rfl, rfl⟩
  have fw_this := w_this hw
  have fw_row := w_row hw
  have fw_land := w_land hw
  have fw_gate := w_gate hw
  have fw_sleeper := w_sleeper hw
  have fw_part := w_part hw
  have fw_lands := w_lands hw
  have fw_gates := w_gates hw
  have fw_sleepers := w_sleepers hw
  have fw_parts := w_parts hw
  have fw_hidings := w_hidings hw
  have fw_queue := w_queue hw
  have fw_rev := w_rev hw
  have fw_passN := w_passN hw
  have fw_pass := w_pass hw
  have fw_hid := w_hid hw
  have fw_free := w_free hw
  refine ⟨?_, ?_, ?_, ?_, ?_, ?_, ?_, ?_, ?_, ?_, ?_, ?_, ?_, ?_, ?_, ?_, ?_⟩
  · exact (ho _ (fun z => by cases z)).trans fw_this
  · exact (ho _ (fun z => by cases z)).trans fw_row
  · exact fun j hj => (ho _ (fun z => by cases z)).trans (fw_land j hj)
  · exact fun j hj => (ho _ (fun z => by cases z)).trans (fw_gate j hj)
  · exact fun j hj => (ho _ (fun z => by cases z)).trans (fw_sleeper j hj)
  · exact fun j hj => by
      by_cases e : j = k
      · subst e; exact hs.trans (by first | (rw [e1]; done) | (rw [e1]; rfl))
      · have e2 : pHead (ll_so κ 1 k v) j = pHead κ j := if_neg (fun z => e z.2)
        exact (ho _ (fun z => e (by cases z; rfl))).trans ((fw_part j hj).trans (by first | (rw [e2]; done) | (rw [e2]; rfl)))
  · exact by obtain ⟨m, hm⟩ := fw_lands; exact ⟨m, (ho _ (fun z => by cases z)).trans hm⟩
  · exact by obtain ⟨m, hm⟩ := fw_gates; exact ⟨m, (ho _ (fun z => by cases z)).trans hm⟩
  · exact by obtain ⟨m, hm⟩ := fw_sleepers; exact ⟨m, (ho _ (fun z => by cases z)).trans hm⟩
  · exact by obtain ⟨m, hm⟩ := fw_parts; exact ⟨m, (ho _ (fun z => by cases z)).trans hm⟩
  · exact by obtain ⟨m, hm⟩ := fw_hidings; exact ⟨m, (ho _ (fun z => by cases z)).trans hm⟩
  · exact fun j hj => by obtain ⟨m, hm⟩ := fw_queue j hj; exact ⟨m, (ho _ (fun z => by cases z)).trans hm⟩
  · exact fun j hj => (ho _ (fun z => by cases z)).trans (fw_rev j hj)
  · exact fun j hj hp => fw_passN j hj hp
  · exact fun j hj p hp => ⟨(ho _ (fun z => by cases z)).trans (fw_pass j hj p hp).1, (ho _ (fun z => by cases z)).trans (fw_pass j hj p hp).2⟩
  · exact fun j hj => (ho _ (fun z => by cases z)).trans (fw_hid j hj)
  · exact fun j => ⟨fun w => ⟨(ho _ (fun z => by cases z)).trans ((fw_free j).1 w).1, (ho _ (fun z => by cases z)).trans ((fw_free j).1 w).2.1, (ho _ (fun z => by cases z)).trans ((fw_free j).1 w).2.2⟩, fun w => (ho _ (fun z => by cases z)).trans ((fw_free j).2.1 w), fun w => (ho _ (fun z => by cases z; have w2 : nP κ ≤ k := w; omega)).trans ((fw_free j).2.2 w)⟩
set_option maxHeartbeats 400000 in
theorem wu_pStore {G : jd_G} {β : ll_B} {κ : ll_K} {h h' : jd_H} (hw : WC G β κ h) {k : Nat} (hk : k < nP κ) {v : Option Nat} (hs : h' (10, k) = some (β 8 k, .inl (.inr (5, [.int (nI ((pDream κ k))), .int ((pWorth κ k)), .int ((pDread κ k)), .int ((oI (pHead κ k))), .int (oI v), .ref (jd_fA G (pFate κ k)), .int ((oI (pBy κ k)))])))) (ho : ∀ j, j ≠ (10, k) → h' j = h j) : WC G β (ll_so κ 2 k v) h' := by
  have e1 : pStore (ll_so κ 2 k v) k = v := if_pos ⟨rfl, rfl⟩
  have fw_this := w_this hw
  have fw_row := w_row hw
  have fw_land := w_land hw
  have fw_gate := w_gate hw
  have fw_sleeper := w_sleeper hw
  have fw_part := w_part hw
  have fw_lands := w_lands hw
  have fw_gates := w_gates hw
  have fw_sleepers := w_sleepers hw
  have fw_parts := w_parts hw
  have fw_hidings := w_hidings hw
  have fw_queue := w_queue hw
  have fw_rev := w_rev hw
  have fw_passN := w_passN hw
  have fw_pass := w_pass hw
  have fw_hid := w_hid hw
  have fw_free := w_free hw
  refine ⟨?_, ?_, ?_, ?_, ?_, ?_, ?_, ?_, ?_, ?_, ?_, ?_, ?_, ?_, ?_, ?_, ?_⟩
  · exact (ho _ (fun z => by cases z)).trans fw_this
  · exact (ho _ (fun z => by cases z)).trans fw_row
  · exact fun j hj => (ho _ (fun z => by cases z)).trans (fw_land j hj)
  · exact fun j hj => (ho _ (fun z => by cases z)).trans (fw_gate j hj)
  · exact fun j hj => (ho _ (fun z => by cases z)).trans (fw_sleeper j hj)
  · exact fun j hj => by
      by_cases e : j = k
      · subst e; exact hs.trans (by first | (rw [e1]; done) | (rw [e1]; rfl))
      · have e2 : pStore (ll_so κ 2 k v) j = pStore κ j := if_neg (fun z => e z.2)
        exact (ho _ (fun z => e (by cases z; rfl))).trans ((fw_part j hj).trans (by first | (rw [e2]; done) | (rw [e2]; rfl)))
  · exact by obtain ⟨m, hm⟩ := fw_lands; exact ⟨m, (ho _ (fun z => by cases z)).trans hm⟩
  · exact by obtain ⟨m, hm⟩ := fw_gates; exact ⟨m, (ho _ (fun z => by cases z)).trans hm⟩
  · exact by obtain ⟨m, hm⟩ := fw_sleepers; exact ⟨m, (ho _ (fun z => by cases z)).trans hm⟩
  · exact by obtain ⟨m, hm⟩ := fw_parts; exact ⟨m, (ho _ (fun z => by cases z)).trans hm⟩
  · exact by obtain ⟨m, hm⟩ := fw_hidings; exact ⟨m, (ho _ (fun z => by cases z)).trans hm⟩
  · exact fun j hj => by obtain ⟨m, hm⟩ := fw_queue j hj; exact ⟨m, (ho _ (fun z => by cases z)).trans hm⟩
  · exact fun j hj => (ho _ (fun z => by cases z)).trans (fw_rev j hj)
  · exact fun j hj hp => fw_passN j hj hp
  · exact fun j hj p hp => ⟨(ho _ (fun z => by cases z)).trans (fw_pass j hj p hp).1, (ho _ (fun z => by cases z)).trans (fw_pass j hj p hp).2⟩
  · exact fun j hj => (ho _ (fun z => by cases z)).trans (fw_hid j hj)
  · exact fun j => ⟨fun w => ⟨(ho _ (fun z => by cases z)).trans ((fw_free j).1 w).1, (ho _ (fun z => by cases z)).trans ((fw_free j).1 w).2.1, (ho _ (fun z => by cases z)).trans ((fw_free j).1 w).2.2⟩, fun w => (ho _ (fun z => by cases z)).trans ((fw_free j).2.1 w), fun w => (ho _ (fun z => by cases z; have w2 : nP κ ≤ k := w; omega)).trans ((fw_free j).2.2 w)⟩
set_option maxHeartbeats 400000 in
theorem wu_pFate {G : jd_G} {β : ll_B} {κ : ll_K} {h h' : jd_H} (hw : WC G β κ h) {k : Nat} (hk : k < nP κ) {v : Nat} (hs : h' (10, k) = some (β 8 k, .inl (.inr (5, [.int (nI ((pDream κ k))), .int ((pWorth κ k)), .int ((pDread κ k)), .int ((oI (pHead κ k))), .int ((oI (pStore κ k))), .ref (jd_fA G v), .int ((oI (pBy κ k)))])))) (ho : ∀ j, j ≠ (10, k) → h' j = h j) : WC G β (ll_sn κ 4 k v) h' := by
  have e1 : pFate (ll_sn κ 4 k v) k = v := if_pos ⟨rfl, rfl⟩
  have fw_this := w_this hw
  have fw_row := w_row hw
  have fw_land := w_land hw
  have fw_gate := w_gate hw
  have fw_sleeper := w_sleeper hw
  have fw_part := w_part hw
  have fw_lands := w_lands hw
  have fw_gates := w_gates hw
  have fw_sleepers := w_sleepers hw
  have fw_parts := w_parts hw
  have fw_hidings := w_hidings hw
  have fw_queue := w_queue hw
  have fw_rev := w_rev hw
  have fw_passN := w_passN hw
  have fw_pass := w_pass hw
  have fw_hid := w_hid hw
  have fw_free := w_free hw
  refine ⟨?_, ?_, ?_, ?_, ?_, ?_, ?_, ?_, ?_, ?_, ?_, ?_, ?_, ?_, ?_, ?_, ?_⟩
  · exact (ho _ (fun z => by cases z)).trans fw_this
  · exact (ho _ (fun z => by cases z)).trans fw_row
  · exact fun j hj => (ho _ (fun z => by cases z)).trans (fw_land j hj)
  · exact fun j hj => (ho _ (fun z => by cases z)).trans (fw_gate j hj)
  · exact fun j hj => (ho _ (fun z => by cases z)).trans (fw_sleeper j hj)
  · exact fun j hj => by
      by_cases e : j = k
      · subst e; exact hs.trans (by first | (rw [e1]; done) | (rw [e1]; rfl))
      · have e2 : pFate (ll_sn κ 4 k v) j = pFate κ j := if_neg (fun z => e z.2)
        exact (ho _ (fun z => e (by cases z; rfl))).trans ((fw_part j hj).trans (by first | (rw [e2]; done) | (rw [e2]; rfl)))
  · exact by obtain ⟨m, hm⟩ := fw_lands; exact ⟨m, (ho _ (fun z => by cases z)).trans hm⟩
  · exact by obtain ⟨m, hm⟩ := fw_gates; exact ⟨m, (ho _ (fun z => by cases z)).trans hm⟩
  · exact by obtain ⟨m, hm⟩ := fw_sleepers; exact ⟨m, (ho _ (fun z => by cases z)).trans hm⟩
  · exact by obtain ⟨m, hm⟩ := fw_parts; exact ⟨m, (ho _ (fun z => by cases z)).trans hm⟩
  · exact by obtain ⟨m, hm⟩ := fw_hidings; exact ⟨m, (ho _ (fun z => by cases z)).trans hm⟩
  · exact fun j hj => by obtain ⟨m, hm⟩ := fw_queue j hj; exact ⟨m, (ho _ (fun z => by cases z)).trans hm⟩
  · exact fun j hj => (ho _ (fun z => by cases z)).trans (fw_rev j hj)
  · exact fun j hj hp => fw_passN j hj hp
  · exact fun j hj p hp => ⟨(ho _ (fun z => by cases z)).trans (fw_pass j hj p hp).1, (ho _ (fun z => by cases z)).trans (fw_pass j hj p hp).2⟩
  · exact fun j hj => (ho _ (fun z => by cases z)).trans (fw_hid j hj)
  · exact fun j => ⟨fun w => ⟨(ho _ (fun z => by cases z)).trans ((fw_free j).1 w).1, (ho _ (fun z => by cases z)).trans ((fw_free j).1 w).2.1, (ho _ (fun z => by cases z)).trans ((fw_free j).1 w).2.2⟩, fun w => (ho _ (fun z => by cases z)).trans ((fw_free j).2.1 w), fun w => (ho _ (fun z => by cases z; have w2 : nP κ ≤ k := w; omega)).trans ((fw_free j).2.2 w)⟩
set_option maxHeartbeats 400000 in
theorem wu_pBy {G : jd_G} {β : ll_B} {κ : ll_K} {h h' : jd_H} (hw : WC G β κ h) {k : Nat} (hk : k < nP κ) {v : Option Nat} (hs : h' (10, k) = some (β 8 k, .inl (.inr (5, [.int (nI ((pDream κ k))), .int ((pWorth κ k)), .int ((pDread κ k)), .int ((oI (pHead κ k))), .int ((oI (pStore κ k))), .ref (jd_fA G (pFate κ k)), .int (oI v)])))) (ho : ∀ j, j ≠ (10, k) → h' j = h j) : WC G β (ll_so κ 3 k v) h' := by
  have e1 : pBy (ll_so κ 3 k v) k = v := if_pos ⟨rfl, rfl⟩
  have fw_this := w_this hw
  have fw_row := w_row hw
  have fw_land := w_land hw
  have fw_gate := w_gate hw
  have fw_sleeper := w_sleeper hw
  have fw_part := w_part hw
  have fw_lands := w_lands hw
  have fw_gates := w_gates hw
  have fw_sleepers := w_sleepers hw
  have fw_parts := w_parts hw
  have fw_hidings := w_hidings hw
  have fw_queue := w_queue hw
  have fw_rev := w_rev hw
  have fw_passN := w_passN hw
  have fw_pass := w_pass hw
  have fw_hid := w_hid hw
  have fw_free := w_free hw
  refine ⟨?_, ?_, ?_, ?_, ?_, ?_, ?_, ?_, ?_, ?_, ?_, ?_, ?_, ?_, ?_, ?_, ?_⟩
  · exact (ho _ (fun z => by cases z)).trans fw_this
  · exact (ho _ (fun z => by cases z)).trans fw_row
  · exact fun j hj => (ho _ (fun z => by cases z)).trans (fw_land j hj)
  · exact fun j hj => (ho _ (fun z => by cases z)).trans (fw_gate j hj)
  · exact fun j hj => (ho _ (fun z => by cases z)).trans (fw_sleeper j hj)
  · exact fun j hj => by
      by_cases e : j = k
      · subst e; exact hs.trans (by first | (rw [e1]; done) | (rw [e1]; rfl))
      · have e2 : pBy (ll_so κ 3 k v) j = pBy κ j := if_neg (fun z => e z.2)
        exact (ho _ (fun z => e (by cases z; rfl))).trans ((fw_part j hj).trans (by first | (rw [e2]; done) | (rw [e2]; rfl)))
  · exact by obtain ⟨m, hm⟩ := fw_lands; exact ⟨m, (ho _ (fun z => by cases z)).trans hm⟩
  · exact by obtain ⟨m, hm⟩ := fw_gates; exact ⟨m, (ho _ (fun z => by cases z)).trans hm⟩
  · exact by obtain ⟨m, hm⟩ := fw_sleepers; exact ⟨m, (ho _ (fun z => by cases z)).trans hm⟩
  · exact by obtain ⟨m, hm⟩ := fw_parts; exact ⟨m, (ho _ (fun z => by cases z)).trans hm⟩
  · exact by obtain ⟨m, hm⟩ := fw_hidings; exact ⟨m, (ho _ (fun z => by cases z)).trans hm⟩
  · exact fun j hj => by obtain ⟨m, hm⟩ := fw_queue j hj; exact ⟨m, (ho _ (fun z => by cases z)).trans hm⟩
  · exact fun j hj => (ho _ (fun z => by cases z)).trans (fw_rev j hj)
  · exact fun j hj hp => fw_passN j hj hp
  · exact fun j hj p hp => ⟨(ho _ (fun z => by cases z)).trans (fw_pass j hj p hp).1, (ho _ (fun z => by cases z)).trans (fw_pass j hj p hp).2⟩
  · exact fun j hj => (ho _ (fun z => by cases z)).trans (fw_hid j hj)
  · exact fun j => ⟨fun w => ⟨(ho _ (fun z => by cases z)).trans ((fw_free j).1 w).1, (ho _ (fun z => by cases z)).trans ((fw_free j).1 w).2.1, (ho _ (fun z => by cases z)).trans ((fw_free j).1 w).2.2⟩, fun w => (ho _ (fun z => by cases z)).trans ((fw_free j).2.1 w), fun w => (ho _ (fun z => by cases z; have w2 : nP κ ≤ k := w; omega)).trans ((fw_free j).2.2 w)⟩
set_option maxHeartbeats 400000 in
theorem wu_nNight {G : jd_G} {β : ll_B} {κ : ll_K} {h h' : jd_H} (hw : WC G β κ h) {v : Nat} (hs : h' (1, 0) = some (β 0 0, .inl (.inr (0, [.ref (β 0 2), .ref (β 0 3), .ref (β 0 4), .ref (β 0 5), .ref (β 0 6), .ref (β 0 1), .int (nI v), .int (nI ((nHour κ))), .int ((yawns κ))])))) (ho : ∀ j, j ≠ (1, 0) → h' j = h j) : WC G β (ll_sn κ 9 3 v) h' := by
  have e1 : nNight (ll_sn κ 9 3 v) = v := rfl
  have fw_this := w_this hw
  have fw_row := w_row hw
  have fw_land := w_land hw
  have fw_gate := w_gate hw
  have fw_sleeper := w_sleeper hw
  have fw_part := w_part hw
  have fw_lands := w_lands hw
  have fw_gates := w_gates hw
  have fw_sleepers := w_sleepers hw
  have fw_parts := w_parts hw
  have fw_hidings := w_hidings hw
  have fw_queue := w_queue hw
  have fw_rev := w_rev hw
  have fw_passN := w_passN hw
  have fw_pass := w_pass hw
  have fw_hid := w_hid hw
  have fw_free := w_free hw
  refine ⟨?_, ?_, ?_, ?_, ?_, ?_, ?_, ?_, ?_, ?_, ?_, ?_, ?_, ?_, ?_, ?_, ?_⟩
  · exact hs.trans (by first | (rw [e1]; done) | (rw [e1]; rfl))
  · exact (ho _ (fun z => by cases z)).trans fw_row
  · exact fun j hj => (ho _ (fun z => by cases z)).trans (fw_land j hj)
  · exact fun j hj => (ho _ (fun z => by cases z)).trans (fw_gate j hj)
  · exact fun j hj => (ho _ (fun z => by cases z)).trans (fw_sleeper j hj)
  · exact fun j hj => (ho _ (fun z => by cases z)).trans (fw_part j hj)
  · exact by obtain ⟨m, hm⟩ := fw_lands; exact ⟨m, (ho _ (fun z => by cases z)).trans hm⟩
  · exact by obtain ⟨m, hm⟩ := fw_gates; exact ⟨m, (ho _ (fun z => by cases z)).trans hm⟩
  · exact by obtain ⟨m, hm⟩ := fw_sleepers; exact ⟨m, (ho _ (fun z => by cases z)).trans hm⟩
  · exact by obtain ⟨m, hm⟩ := fw_parts; exact ⟨m, (ho _ (fun z => by cases z)).trans hm⟩
  · exact by obtain ⟨m, hm⟩ := fw_hidings; exact ⟨m, (ho _ (fun z => by cases z)).trans hm⟩
  · exact fun j hj => by obtain ⟨m, hm⟩ := fw_queue j hj; exact ⟨m, (ho _ (fun z => by cases z)).trans hm⟩
  · exact fun j hj => (ho _ (fun z => by cases z)).trans (fw_rev j hj)
  · exact fun j hj hp => fw_passN j hj hp
  · exact fun j hj p hp => ⟨(ho _ (fun z => by cases z)).trans (fw_pass j hj p hp).1, (ho _ (fun z => by cases z)).trans (fw_pass j hj p hp).2⟩
  · exact fun j hj => (ho _ (fun z => by cases z)).trans (fw_hid j hj)
  · exact fun j => ⟨fun w => ⟨(ho _ (fun z => by cases z)).trans ((fw_free j).1 w).1, (ho _ (fun z => by cases z)).trans ((fw_free j).1 w).2.1, (ho _ (fun z => by cases z)).trans ((fw_free j).1 w).2.2⟩, fun w => (ho _ (fun z => by cases z)).trans ((fw_free j).2.1 w), fun w => (ho _ (fun z => by cases z)).trans ((fw_free j).2.2 w)⟩
set_option maxHeartbeats 400000 in
theorem wu_nHour {G : jd_G} {β : ll_B} {κ : ll_K} {h h' : jd_H} (hw : WC G β κ h) {v : Nat} (hs : h' (1, 0) = some (β 0 0, .inl (.inr (0, [.ref (β 0 2), .ref (β 0 3), .ref (β 0 4), .ref (β 0 5), .ref (β 0 6), .ref (β 0 1), .int (nI ((nNight κ))), .int (nI v), .int ((yawns κ))])))) (ho : ∀ j, j ≠ (1, 0) → h' j = h j) : WC G β (ll_sn κ 9 4 v) h' := by
  have e1 : nHour (ll_sn κ 9 4 v) = v := rfl
  have fw_this := w_this hw
  have fw_row := w_row hw
  have fw_land := w_land hw
  have fw_gate := w_gate hw
  have fw_sleeper := w_sleeper hw
  have fw_part := w_part hw
  have fw_lands := w_lands hw
  have fw_gates := w_gates hw
  have fw_sleepers := w_sleepers hw
  have fw_parts := w_parts hw
  have fw_hidings := w_hidings hw
  have fw_queue := w_queue hw
  have fw_rev := w_rev hw
  have fw_passN := w_passN hw
  have fw_pass := w_pass hw
  have fw_hid := w_hid hw
  have fw_free := w_free hw
  refine ⟨?_, ?_, ?_, ?_, ?_, ?_, ?_, ?_, ?_, ?_, ?_, ?_, ?_, ?_, ?_, ?_, ?_⟩
  · exact hs.trans (by first | (rw [e1]; done) | (rw [e1]; rfl))
  · exact (ho _ (fun z => by cases z)).trans fw_row
  · exact fun j hj => (ho _ (fun z => by cases z)).trans (fw_land j hj)
  · exact fun j hj => (ho _ (fun z => by cases z)).trans (fw_gate j hj)
  · exact fun j hj => (ho _ (fun z => by cases z)).trans (fw_sleeper j hj)
  · exact fun j hj => (ho _ (fun z => by cases z)).trans (fw_part j hj)
  · exact by obtain ⟨m, hm⟩ := fw_lands; exact ⟨m, (ho _ (fun z => by cases z)).trans hm⟩
  · exact by obtain ⟨m, hm⟩ := fw_gates; exact ⟨m, (ho _ (fun z => by cases z)).trans hm⟩
  · exact by obtain ⟨m, hm⟩ := fw_sleepers; exact ⟨m, (ho _ (fun z => by cases z)).trans hm⟩
  · exact by obtain ⟨m, hm⟩ := fw_parts; exact ⟨m, (ho _ (fun z => by cases z)).trans hm⟩
  · exact by obtain ⟨m, hm⟩ := fw_hidings; exact ⟨m, (ho _ (fun z => by cases z)).trans hm⟩
  · exact fun j hj => by obtain ⟨m, hm⟩ := fw_queue j hj; exact ⟨m, (ho _ (fun z => by cases z)).trans hm⟩
  · exact fun j hj => (ho _ (fun z => by cases z)).trans (fw_rev j hj)
  · exact fun j hj hp => fw_passN j hj hp
  · exact fun j hj p hp => ⟨(ho _ (fun z => by cases z)).trans (fw_pass j hj p hp).1, (ho _ (fun z => by cases z)).trans (fw_pass j hj p hp).2⟩
  · exact fun j hj => (ho _ (fun z => by cases z)).trans (fw_hid j hj)
  · exact fun j => ⟨fun w => ⟨(ho _ (fun z => by cases z)).trans ((fw_free j).1 w).1, (ho _ (fun z => by cases z)).trans ((fw_free j).1 w).2.1, (ho _ (fun z => by cases z)).trans ((fw_free j).1 w).2.2⟩, fun w => (ho _ (fun z => by cases z)).trans ((fw_free j).2.1 w), fun w => (ho _ (fun z => by cases z)).trans ((fw_free j).2.2 w)⟩
set_option maxHeartbeats 400000 in
theorem wu_yawns {G : jd_G} {β : ll_B} {κ : ll_K} {h h' : jd_H} (hw : WC G β κ h) {v : Int32} (hs : h' (1, 0) = some (β 0 0, .inl (.inr (0, [.ref (β 0 2), .ref (β 0 3), .ref (β 0 4), .ref (β 0 5), .ref (β 0 6), .ref (β 0 1), .int (nI ((nNight κ))), .int (nI ((nHour κ))), .int v])))) (ho : ∀ j, j ≠ (1, 0) → h' j = h j) : WC G β (ll_sz κ 6 2 v) h' := by
  have e1 : yawns (ll_sz κ 6 2 v) = v := rfl
  have fw_this := w_this hw
  have fw_row := w_row hw
  have fw_land := w_land hw
  have fw_gate := w_gate hw
  have fw_sleeper := w_sleeper hw
  have fw_part := w_part hw
  have fw_lands := w_lands hw
  have fw_gates := w_gates hw
  have fw_sleepers := w_sleepers hw
  have fw_parts := w_parts hw
  have fw_hidings := w_hidings hw
  have fw_queue := w_queue hw
  have fw_rev := w_rev hw
  have fw_passN := w_passN hw
  have fw_pass := w_pass hw
  have fw_hid := w_hid hw
  have fw_free := w_free hw
  refine ⟨?_, ?_, ?_, ?_, ?_, ?_, ?_, ?_, ?_, ?_, ?_, ?_, ?_, ?_, ?_, ?_, ?_⟩
  · exact hs.trans (by first | (rw [e1]; done) | (rw [e1]; rfl))
  · exact (ho _ (fun z => by cases z)).trans fw_row
  · exact fun j hj => (ho _ (fun z => by cases z)).trans (fw_land j hj)
  · exact fun j hj => (ho _ (fun z => by cases z)).trans (fw_gate j hj)
  · exact fun j hj => (ho _ (fun z => by cases z)).trans (fw_sleeper j hj)
  · exact fun j hj => (ho _ (fun z => by cases z)).trans (fw_part j hj)
  · exact by obtain ⟨m, hm⟩ := fw_lands; exact ⟨m, (ho _ (fun z => by cases z)).trans hm⟩
  · exact by obtain ⟨m, hm⟩ := fw_gates; exact ⟨m, (ho _ (fun z => by cases z)).trans hm⟩
  · exact by obtain ⟨m, hm⟩ := fw_sleepers; exact ⟨m, (ho _ (fun z => by cases z)).trans hm⟩
  · exact by obtain ⟨m, hm⟩ := fw_parts; exact ⟨m, (ho _ (fun z => by cases z)).trans hm⟩
  · exact by obtain ⟨m, hm⟩ := fw_hidings; exact ⟨m, (ho _ (fun z => by cases z)).trans hm⟩
  · exact fun j hj => by obtain ⟨m, hm⟩ := fw_queue j hj; exact ⟨m, (ho _ (fun z => by cases z)).trans hm⟩
  · exact fun j hj => (ho _ (fun z => by cases z)).trans (fw_rev j hj)
  · exact fun j hj hp => fw_passN j hj hp
  · exact fun j hj p hp => ⟨(ho _ (fun z => by cases z)).trans (fw_pass j hj p hp).1, (ho _ (fun z => by cases z)).trans (fw_pass j hj p hp).2⟩
  · exact fun j hj => (ho _ (fun z => by cases z)).trans (fw_hid j hj)
  · exact fun j => ⟨fun w => ⟨(ho _ (fun z => by cases z)).trans ((fw_free j).1 w).1, (ho _ (fun z => by cases z)).trans ((fw_free j).1 w).2.1, (ho _ (fun z => by cases z)).trans ((fw_free j).1 w).2.2⟩, fun w => (ho _ (fun z => by cases z)).trans ((fw_free j).2.1 w), fun w => (ho _ (fun z => by cases z)).trans ((fw_free j).2.2 w)⟩
set_option maxHeartbeats 400000 in
theorem wu_rNext {G : jd_G} {β : ll_B} {κ : ll_K} {h h' : jd_H} (hw : WC G β κ h) {v : Int32} (hs : h' (1, 1) = some (β 0 1, .inl (.inr (1, [.int v, .int ((rDrawn κ))])))) (ho : ∀ j, j ≠ (1, 1) → h' j = h j) : WC G β (ll_sz κ 6 3 v) h' := by
  have e1 : rNext (ll_sz κ 6 3 v) = v := rfl
  have fw_this := w_this hw
  have fw_row := w_row hw
  have fw_land := w_land hw
  have fw_gate := w_gate hw
  have fw_sleeper := w_sleeper hw
  have fw_part := w_part hw
  have fw_lands := w_lands hw
  have fw_gates := w_gates hw
  have fw_sleepers := w_sleepers hw
  have fw_parts := w_parts hw
  have fw_hidings := w_hidings hw
  have fw_queue := w_queue hw
  have fw_rev := w_rev hw
  have fw_passN := w_passN hw
  have fw_pass := w_pass hw
  have fw_hid := w_hid hw
  have fw_free := w_free hw
  refine ⟨?_, ?_, ?_, ?_, ?_, ?_, ?_, ?_, ?_, ?_, ?_, ?_, ?_, ?_, ?_, ?_, ?_⟩
  · exact (ho _ (fun z => by cases z)).trans fw_this
  · exact hs.trans (by first | (rw [e1]; done) | (rw [e1]; rfl))
  · exact fun j hj => (ho _ (fun z => by cases z)).trans (fw_land j hj)
  · exact fun j hj => (ho _ (fun z => by cases z)).trans (fw_gate j hj)
  · exact fun j hj => (ho _ (fun z => by cases z)).trans (fw_sleeper j hj)
  · exact fun j hj => (ho _ (fun z => by cases z)).trans (fw_part j hj)
  · exact by obtain ⟨m, hm⟩ := fw_lands; exact ⟨m, (ho _ (fun z => by cases z)).trans hm⟩
  · exact by obtain ⟨m, hm⟩ := fw_gates; exact ⟨m, (ho _ (fun z => by cases z)).trans hm⟩
  · exact by obtain ⟨m, hm⟩ := fw_sleepers; exact ⟨m, (ho _ (fun z => by cases z)).trans hm⟩
  · exact by obtain ⟨m, hm⟩ := fw_parts; exact ⟨m, (ho _ (fun z => by cases z)).trans hm⟩
  · exact by obtain ⟨m, hm⟩ := fw_hidings; exact ⟨m, (ho _ (fun z => by cases z)).trans hm⟩
  · exact fun j hj => by obtain ⟨m, hm⟩ := fw_queue j hj; exact ⟨m, (ho _ (fun z => by cases z)).trans hm⟩
  · exact fun j hj => (ho _ (fun z => by cases z)).trans (fw_rev j hj)
  · exact fun j hj hp => fw_passN j hj hp
  · exact fun j hj p hp => ⟨(ho _ (fun z => by cases z)).trans (fw_pass j hj p hp).1, (ho _ (fun z => by cases z)).trans (fw_pass j hj p hp).2⟩
  · exact fun j hj => (ho _ (fun z => by cases z)).trans (fw_hid j hj)
  · exact fun j => ⟨fun w => ⟨(ho _ (fun z => by cases z)).trans ((fw_free j).1 w).1, (ho _ (fun z => by cases z)).trans ((fw_free j).1 w).2.1, (ho _ (fun z => by cases z)).trans ((fw_free j).1 w).2.2⟩, fun w => (ho _ (fun z => by cases z)).trans ((fw_free j).2.1 w), fun w => (ho _ (fun z => by cases z)).trans ((fw_free j).2.2 w)⟩
set_option maxHeartbeats 400000 in
theorem wu_rDrawn {G : jd_G} {β : ll_B} {κ : ll_K} {h h' : jd_H} (hw : WC G β κ h) {v : Int32} (hs : h' (1, 1) = some (β 0 1, .inl (.inr (1, [.int ((rNext κ)), .int v])))) (ho : ∀ j, j ≠ (1, 1) → h' j = h j) : WC G β (ll_sz κ 6 4 v) h' := by
  have e1 : rDrawn (ll_sz κ 6 4 v) = v := rfl
  have fw_this := w_this hw
  have fw_row := w_row hw
  have fw_land := w_land hw
  have fw_gate := w_gate hw
  have fw_sleeper := w_sleeper hw
  have fw_part := w_part hw
  have fw_lands := w_lands hw
  have fw_gates := w_gates hw
  have fw_sleepers := w_sleepers hw
  have fw_parts := w_parts hw
  have fw_hidings := w_hidings hw
  have fw_queue := w_queue hw
  have fw_rev := w_rev hw
  have fw_passN := w_passN hw
  have fw_pass := w_pass hw
  have fw_hid := w_hid hw
  have fw_free := w_free hw
  refine ⟨?_, ?_, ?_, ?_, ?_, ?_, ?_, ?_, ?_, ?_, ?_, ?_, ?_, ?_, ?_, ?_, ?_⟩
  · exact (ho _ (fun z => by cases z)).trans fw_this
  · exact hs.trans (by first | (rw [e1]; done) | (rw [e1]; rfl))
  · exact fun j hj => (ho _ (fun z => by cases z)).trans (fw_land j hj)
  · exact fun j hj => (ho _ (fun z => by cases z)).trans (fw_gate j hj)
  · exact fun j hj => (ho _ (fun z => by cases z)).trans (fw_sleeper j hj)
  · exact fun j hj => (ho _ (fun z => by cases z)).trans (fw_part j hj)
  · exact by obtain ⟨m, hm⟩ := fw_lands; exact ⟨m, (ho _ (fun z => by cases z)).trans hm⟩
  · exact by obtain ⟨m, hm⟩ := fw_gates; exact ⟨m, (ho _ (fun z => by cases z)).trans hm⟩
  · exact by obtain ⟨m, hm⟩ := fw_sleepers; exact ⟨m, (ho _ (fun z => by cases z)).trans hm⟩
  · exact by obtain ⟨m, hm⟩ := fw_parts; exact ⟨m, (ho _ (fun z => by cases z)).trans hm⟩
  · exact by obtain ⟨m, hm⟩ := fw_hidings; exact ⟨m, (ho _ (fun z => by cases z)).trans hm⟩
  · exact fun j hj => by obtain ⟨m, hm⟩ := fw_queue j hj; exact ⟨m, (ho _ (fun z => by cases z)).trans hm⟩
  · exact fun j hj => (ho _ (fun z => by cases z)).trans (fw_rev j hj)
  · exact fun j hj hp => fw_passN j hj hp
  · exact fun j hj p hp => ⟨(ho _ (fun z => by cases z)).trans (fw_pass j hj p hp).1, (ho _ (fun z => by cases z)).trans (fw_pass j hj p hp).2⟩
  · exact fun j hj => (ho _ (fun z => by cases z)).trans (fw_hid j hj)
  · exact fun j => ⟨fun w => ⟨(ho _ (fun z => by cases z)).trans ((fw_free j).1 w).1, (ho _ (fun z => by cases z)).trans ((fw_free j).1 w).2.1, (ho _ (fun z => by cases z)).trans ((fw_free j).1 w).2.2⟩, fun w => (ho _ (fun z => by cases z)).trans ((fw_free j).2.1 w), fun w => (ho _ (fun z => by cases z)).trans ((fw_free j).2.2 w)⟩
theorem wu_gRev {G : jd_G} {β : ll_B} {κ : ll_K} {h h' : jd_H} (hw : WC G β κ h) {k : Nat} (hk : k < nG κ) {V : Nat → Bool} {f : Nat → Int32} (hf : f = fun v => jd_b (V v = true)) (hs : h' (6, k) = some (β 4 k, .inl (.inl (G.2.1 1, 97, .inl f)))) (ho : ∀ j, j ≠ (6, k) → h' j = h j) : WC G β (ll_sr κ k V) h' := by
  have fw_this := w_this hw
  have fw_row := w_row hw
  have fw_land := w_land hw
  have fw_gate := w_gate hw
  have fw_sleeper := w_sleeper hw
  have fw_part := w_part hw
  have fw_lands := w_lands hw
  have fw_gates := w_gates hw
  have fw_sleepers := w_sleepers hw
  have fw_parts := w_parts hw
  have fw_hidings := w_hidings hw
  have fw_queue := w_queue hw
  have fw_rev := w_rev hw
  have fw_passN := w_passN hw
  have fw_pass := w_pass hw
  have fw_hid := w_hid hw
  have fw_free := w_free hw
  refine ⟨?_, ?_, ?_, ?_, ?_, ?_, ?_, ?_, ?_, ?_, ?_, ?_, ?_, ?_, ?_, ?_, ?_⟩
  · exact (ho _ (fun z => by cases z)).trans fw_this
  · exact (ho _ (fun z => by cases z)).trans fw_row
  · exact fun j hj => (ho _ (fun z => by cases z)).trans (fw_land j hj)
  · exact fun j hj => (ho _ (fun z => by cases z)).trans (fw_gate j hj)
  · exact fun j hj => (ho _ (fun z => by cases z)).trans (fw_sleeper j hj)
  · exact fun j hj => (ho _ (fun z => by cases z)).trans (fw_part j hj)
  · exact by obtain ⟨m, hm⟩ := fw_lands; exact ⟨m, (ho _ (fun z => by cases z)).trans hm⟩
  · exact by obtain ⟨m, hm⟩ := fw_gates; exact ⟨m, (ho _ (fun z => by cases z)).trans hm⟩
  · exact by obtain ⟨m, hm⟩ := fw_sleepers; exact ⟨m, (ho _ (fun z => by cases z)).trans hm⟩
  · exact by obtain ⟨m, hm⟩ := fw_parts; exact ⟨m, (ho _ (fun z => by cases z)).trans hm⟩
  · exact by obtain ⟨m, hm⟩ := fw_hidings; exact ⟨m, (ho _ (fun z => by cases z)).trans hm⟩
  · exact fun j hj => by obtain ⟨m, hm⟩ := fw_queue j hj; exact ⟨m, (ho _ (fun z => by cases z)).trans hm⟩
  · exact fun j hj => by
      by_cases e : j = k
      · subst e; have e1 : ∀ v, gRev (ll_sr κ j V) j v = V v := fun v => congrFun (if_pos rfl) v
        rw [hs, hf]
        refine congrArg (fun F : Nat → Int32 => some (β 4 j, (Sum.inl (Sum.inl (G.2.1 1, 97, Sum.inl F)) : jd_E))) (funext fun v => ?_)
        show jd_b (V v = true) = jd_b (gRev (ll_sr κ j V) j v = true)
        exact jd_bcong (by rw [e1 v])
      · have e2 : ∀ v, gRev (ll_sr κ k V) j v = gRev κ j v := fun v => congrFun (if_neg e) v
        refine (ho _ (fun z => e (by cases z; rfl))).trans ((fw_rev j hj).trans ?_)
        refine congrArg (fun F : Nat → Int32 => some (β 4 j, (Sum.inl (Sum.inl (G.2.1 1, 97, Sum.inl F)) : jd_E))) (funext fun v => ?_)
        show jd_b (gRev κ j v = true) = jd_b (gRev (ll_sr κ k V) j v = true)
        exact jd_bcong (by rw [e2 v])
  · exact fun j hj hp => fw_passN j hj hp
  · exact fun j hj p hp => ⟨(ho _ (fun z => by cases z)).trans (fw_pass j hj p hp).1, (ho _ (fun z => by cases z)).trans (fw_pass j hj p hp).2⟩
  · exact fun j hj => (ho _ (fun z => by cases z)).trans (fw_hid j hj)
  · exact fun j => ⟨fun w => ⟨(ho _ (fun z => by cases z)).trans ((fw_free j).1 w).1, (ho _ (fun z => by cases z)).trans ((fw_free j).1 w).2.1, (ho _ (fun z => by cases z; have w2 : nG κ ≤ k := w; omega)).trans ((fw_free j).1 w).2.2⟩, fun w => (ho _ (fun z => by cases z)).trans ((fw_free j).2.1 w), fun w => (ho _ (fun z => by cases z)).trans ((fw_free j).2.2 w)⟩
theorem wu_gQue {G : jd_G} {β : ll_B} {κ : ll_K} {h h' : jd_H} (hw : WC G β κ h) {k : Nat} (hk : k < nG κ) {l : List Nat} {mc : Int32} {n : Nat} {f : Nat → Nat} (hn : n = l.length) (hf : f = fun j => β 5 (l.getD j 12)) (hs : h' (5, k) = some (β 3 k, .inr (mc, n, f))) (ho : ∀ j, j ≠ (5, k) → h' j = h j) : WC G β (ll_sq κ k l) h' := by
  have fw_this := w_this hw
  have fw_row := w_row hw
  have fw_land := w_land hw
  have fw_gate := w_gate hw
  have fw_sleeper := w_sleeper hw
  have fw_part := w_part hw
  have fw_lands := w_lands hw
  have fw_gates := w_gates hw
  have fw_sleepers := w_sleepers hw
  have fw_parts := w_parts hw
  have fw_hidings := w_hidings hw
  have fw_queue := w_queue hw
  have fw_rev := w_rev hw
  have fw_passN := w_passN hw
  have fw_pass := w_pass hw
  have fw_hid := w_hid hw
  have fw_free := w_free hw
  refine ⟨?_, ?_, ?_, ?_, ?_, ?_, ?_, ?_, ?_, ?_, ?_, ?_, ?_, ?_, ?_, ?_, ?_⟩
  · exact (ho _ (fun z => by cases z)).trans fw_this
  · exact (ho _ (fun z => by cases z)).trans fw_row
  · exact fun j hj => (ho _ (fun z => by cases z)).trans (fw_land j hj)
  · exact fun j hj => (ho _ (fun z => by cases z)).trans (fw_gate j hj)
  · exact fun j hj => (ho _ (fun z => by cases z)).trans (fw_sleeper j hj)
  · exact fun j hj => (ho _ (fun z => by cases z)).trans (fw_part j hj)
  · exact by obtain ⟨m, hm⟩ := fw_lands; exact ⟨m, (ho _ (fun z => by cases z)).trans hm⟩
  · exact by obtain ⟨m, hm⟩ := fw_gates; exact ⟨m, (ho _ (fun z => by cases z)).trans hm⟩
  · exact by obtain ⟨m, hm⟩ := fw_sleepers; exact ⟨m, (ho _ (fun z => by cases z)).trans hm⟩
  · exact by obtain ⟨m, hm⟩ := fw_parts; exact ⟨m, (ho _ (fun z => by cases z)).trans hm⟩
  · exact by obtain ⟨m, hm⟩ := fw_hidings; exact ⟨m, (ho _ (fun z => by cases z)).trans hm⟩
  · exact fun j hj => by
      by_cases e : j = k
      · subst e; have e1 : gQue (ll_sq κ j l) j = l := if_pos rfl
        refine ⟨mc, ?_⟩
        rw [hs, hf, hn]
        simp only [e1]
      · have e2 : gQue (ll_sq κ k l) j = gQue κ j := if_neg e
        obtain ⟨m, hm⟩ := fw_queue j hj
        refine ⟨m, (ho _ (fun z => e (by cases z; rfl))).trans (hm.trans ?_)⟩
        simp only [e2]
  · exact fun j hj => (ho _ (fun z => by cases z)).trans (fw_rev j hj)
  · exact fun j hj hp => fw_passN j hj hp
  · exact fun j hj p hp => ⟨(ho _ (fun z => by cases z)).trans (fw_pass j hj p hp).1, (ho _ (fun z => by cases z)).trans (fw_pass j hj p hp).2⟩
  · exact fun j hj => (ho _ (fun z => by cases z)).trans (fw_hid j hj)
  · exact fun j => ⟨fun w => ⟨(ho _ (fun z => by cases z)).trans ((fw_free j).1 w).1, (ho _ (fun z => by cases z; have w2 : nG κ ≤ k := w; omega)).trans ((fw_free j).1 w).2.1, (ho _ (fun z => by cases z)).trans ((fw_free j).1 w).2.2⟩, fun w => (ho _ (fun z => by cases z)).trans ((fw_free j).2.1 w), fun w => (ho _ (fun z => by cases z)).trans ((fw_free j).2.2 w)⟩
