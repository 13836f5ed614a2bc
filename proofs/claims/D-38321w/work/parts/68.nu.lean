/-! ===== nu: the invariant stays, the refusals' numbers ===== -/
theorem c_if {p : Prop} [Decidable p] {x k : Nat} (h : (if p then x else k) = 0) (hk : k ≠ 0) : p ∧ x = 0 := by
  by_cases e : p
  · rw [if_pos e] at h; exact ⟨e, h⟩
  · rw [if_neg e] at h; exact absurd h hk
theorem inR_le {x lo hi : Int32} (h : inR x lo hi) : lo ≤ x ∧ x ≤ hi := ⟨Int32.not_lt.mp h.1, Int32.not_lt.mp h.2⟩
theorem inN_t {x : Int32} {n : Nat} (hn : n < 2 ^ 31) (h : inN x n) : tN x < n ∧ x = nI (tN x) := by
  obtain ⟨k, h1, h2⟩ := inN_ex hn h
  subst h2
  rw [tN_nI (by omega)]
  exact ⟨h1, rfl⟩
theorem inR_t {x : Int32} {lo hi : Nat} (h : inR x (nI lo) (nI hi)) (hh : hi < 2 ^ 31) (hl : lo < 2 ^ 31) : lo ≤ tN x ∧ tN x ≤ hi := by
  obtain ⟨k, h1, h2⟩ := inR_ex h hh hl
  subst h2
  rw [tN_nI (by omega)]
  exact h1
theorem P_land {κ : ll_K} {l r a : Int32} (hI : ll_I κ) (h : c_land l r a = 0) : ll_I (k_land κ (tN l) r a) := by
  obtain ⟨h1, h⟩ := c_if h (by decide)
  obtain ⟨h2, h⟩ := c_if h (by decide)
  obtain ⟨h3, h⟩ := c_if h (by decide)
  refine ⟨hI.1, hI.2.1, hI.2.2.1, hI.2.2.2.1, hI.2.2.2.2.1, fun k hk => ?_, hI.2.2.2.2.2.2⟩
  have h0 := hI.2.2.2.2.2.1 k hk
  have e1 : lRate (k_land κ (tN l) r a) k = if k = tN l then r else lRate κ k := by simp [k_land, ll_sz, lRate]
  have e2 : lAll (k_land κ (tN l) r a) k = if k = tN l then a else lAll κ k := by simp [k_land, ll_sz, lAll]
  rw [e1, e2]
  refine ⟨?_, ?_, h0.2.2⟩
  · split
    · exact inR_le h2
    · exact h0.1
  · split
    · exact inR_le h3
    · exact h0.2.1
abbrev sum6 (F : Nat → Int32) : Int32 := F 0 + F 1 + F 2 + F 3 + F 4 + F 5
theorem i_sw {a b c : Int32} : a + b + c = a + c + b := by rw [Int32.add_assoc, Int32.add_comm b c, ← Int32.add_assoc]
theorem sum6_d {F : Nat → Int32} {f : Nat} (hf : f < 6) (v : Int32) : sum6 (fun k => if k = f then F k + v else F k) = sum6 F + v := by
  rcases (by omega : f = 0 ∨ f = 1 ∨ f = 2 ∨ f = 3 ∨ f = 4 ∨ f = 5) with rfl | rfl | rfl | rfl | rfl | rfl
  · show F 0 + v + F 1 + F 2 + F 3 + F 4 + F 5 = _
    rw [i_sw (b := v) (c := F 1), i_sw (b := v) (c := F 2), i_sw (b := v) (c := F 3), i_sw (b := v) (c := F 4), i_sw (b := v) (c := F 5)]
  · show F 0 + (F 1 + v) + F 2 + F 3 + F 4 + F 5 = _
    rw [← Int32.add_assoc, i_sw (b := v) (c := F 2), i_sw (b := v) (c := F 3), i_sw (b := v) (c := F 4), i_sw (b := v) (c := F 5)]
  · show F 0 + F 1 + (F 2 + v) + F 3 + F 4 + F 5 = _
    rw [← Int32.add_assoc, i_sw (b := v) (c := F 3), i_sw (b := v) (c := F 4), i_sw (b := v) (c := F 5)]
  · show F 0 + F 1 + F 2 + (F 3 + v) + F 4 + F 5 = _
    rw [← Int32.add_assoc, i_sw (b := v) (c := F 4), i_sw (b := v) (c := F 5)]
  · show F 0 + F 1 + F 2 + F 3 + (F 4 + v) + F 5 = _
    rw [← Int32.add_assoc, i_sw (b := v) (c := F 5)]
  · show F 0 + F 1 + F 2 + F 3 + F 4 + (F 5 + v) = _
    rw [← Int32.add_assoc]
theorem quo_d {κ : ll_K} {f k : Nat} {m : Int32} : lQuo (k_trade1 κ f m) k = if k = f then lQuo κ k + (-m) else lQuo κ k := by
  by_cases e : k = f
  · subst e; simp [k_trade1, ll_sz, lQuo, Int32.sub_eq_add_neg]
  · simp [k_trade1, ll_sz, lQuo, e]
theorem quo_u {κ : ll_K} {f t k : Nat} {m : Int32} : lQuo (k_trade κ f t m) k = if k = t then lQuo (k_trade1 κ f m) k + m else lQuo (k_trade1 κ f m) k := by
  by_cases e : k = t
  · subst e; simp [k_trade, ll_sz, lQuo]
  · simp [k_trade, ll_sz, lQuo, e]
theorem P_trade {κ : ll_K} {f t m : Int32} (hI : ll_I κ) (h : c_trade κ f t m = 0) : ll_I (k_trade κ (tN f) (tN t) m) := by
  obtain ⟨h1, h⟩ := c_if h (by decide)
  obtain ⟨h2, h⟩ := c_if h (by decide)
  obtain ⟨⟨h3, h4⟩, h⟩ := c_if h (by decide)
  obtain ⟨⟨h5, h6⟩, h⟩ := c_if h (by decide)
  obtain ⟨f1, -⟩ := inN_t (by decide) h1
  obtain ⟨t1, -⟩ := inN_t (by decide) h2
  have q1 : ∀ k, lQuo (k_trade1 κ (tN f) m) k = if k = tN f then lQuo κ k + (-m) else lQuo κ k := fun k => quo_d
  have q2 : ∀ k, lQuo (k_trade κ (tN f) (tN t) m) k = if k = tN t then lQuo (k_trade1 κ (tN f) m) k + m else lQuo (k_trade1 κ (tN f) m) k := fun k => quo_u
  have hq0 := (hI.2.2.2.2.2.1 _ f1).2.2
  have hq1 := (hI.2.2.2.2.2.1 _ t1).2.2
  refine ⟨hI.1, hI.2.1, hI.2.2.1, hI.2.2.2.1, hI.2.2.2.2.1, fun k hk => ?_, ?_⟩
  · have h0 := hI.2.2.2.2.2.1 k hk
    refine ⟨h0.1, h0.2.1, ?_⟩
    have z0 : (0 : Int32).toInt = 0 := by decide
    have z30 : (30 : Int32).toInt = 30 := by decide
    have b0 : ∀ x : Int32, 0 ≤ x ∧ x ≤ 30 ↔ 0 ≤ x.toInt ∧ x.toInt ≤ 30 := fun x => by rw [Int32.le_iff_toInt_le, Int32.le_iff_toInt_le, z0, z30]
    rw [b0] at hq0 hq1
    have hm0 : 0 ≤ m.toInt := by rw [i_lt, z0] at h4; omega
    have hm1 : m.toInt ≤ (lQuo κ (tN f)).toInt := by rw [i_lt] at h5; omega
    have es : (lQuo κ (tN t) + m).toInt = (lQuo κ (tN t)).toInt + m.toInt := i_add (by omega) (by omega)
    have hm2 : (lQuo κ (tN t)).toInt + m.toInt ≤ 30 := by rw [i_lt, es, z30] at h6; omega
    rw [q2, q1]
    by_cases e1 : k = tN t
    · subst e1
      rw [if_pos rfl, if_neg (fun z => h3 z.symm), b0, es]; omega
    · rw [if_neg e1]
      by_cases e2 : k = tN f
      · subst e2
        rw [if_pos rfl, ← Int32.sub_eq_add_neg, b0, i_sub (by omega) (by omega)]; omega
      · rw [if_neg e2]; exact h0.2.2
  · have s0 : sum6 (lQuo κ) = 30 := hI.2.2.2.2.2.2
    show sum6 (lQuo (k_trade κ (tN f) (tN t) m)) = 30
    have e2 : lQuo (k_trade κ (tN f) (tN t) m) = fun k => if k = tN t then lQuo (k_trade1 κ (tN f) m) k + m else lQuo (k_trade1 κ (tN f) m) k := funext q2
    have e1 : lQuo (k_trade1 κ (tN f) m) = fun k => if k = tN f then lQuo κ k + (-m) else lQuo κ k := funext q1
    rw [e2, sum6_d t1, e1, sum6_d f1, s0, Int32.add_assoc, Int32.add_left_neg, Int32.add_zero]
theorem P_odds {κ : ll_K} {g o : Int32} (hI : ll_I κ) (_h : c_odds κ g o = 0) : ll_I (ll_sz κ 9 (tN g) o) := ⟨hI.1, hI.2.1, hI.2.2.1, hI.2.2.2.1, hI.2.2.2.2.1, hI.2.2.2.2.2.1, hI.2.2.2.2.2.2⟩
theorem P_relieve {κ : ll_K} {g : Int32} (hI : ll_I κ) (_h : c_gate1 κ g = 0) : ll_I (ll_sz κ 10 (tN g) 0) := ⟨hI.1, hI.2.1, hI.2.2.1, hI.2.2.2.1, hI.2.2.2.2.1, hI.2.2.2.2.2.1, hI.2.2.2.2.2.2⟩
theorem P_revoke {κ : ll_K} {g v : Int32} (hI : ll_I κ) (_h : c_revoke κ g v = 0) : ll_I (k_revoke κ (tN g) (tN v)) := ⟨hI.1, hI.2.1, hI.2.2.1, hI.2.2.2.1, hI.2.2.2.2.1, hI.2.2.2.2.2.1, hI.2.2.2.2.2.2⟩
/-- the part p gets the head b, who rests -/
theorem P_head {κ : ll_K} {p b : Nat} (hI : ll_I κ) (hb : b < nS κ) (hr : sRest κ b = 0) (hn : ∀ s, sRest κ s = 1 → s < nS κ → pHead κ p ≠ some s) (hst : pStore κ p = none) : ll_I (ll_so κ 1 p (some b)) := by
  have e1 : ∀ k, pHead (ll_so κ 1 p (some b)) k = if k = p then some b else pHead κ k := fun k => by simp [pHead, ll_so]
  refine ⟨hI.1, hI.2.1, fun s hs => ?_, fun k hk => ?_, hI.2.2.2.2.1, hI.2.2.2.2.2.1, hI.2.2.2.2.2.2⟩
  · have h1 := hI.2.2.1 s hs
    refine ⟨h1.1, h1.2.1, h1.2.2.1, h1.2.2.2.1, h1.2.2.2.2.1, h1.2.2.2.2.2.1, fun h2 k hk => ?_, h1.2.2.2.2.2.2.2.1, h1.2.2.2.2.2.2.2.2.1, fun h2 k hk hd => ?_⟩
    · rw [e1]
      by_cases e : k = p
      · rw [if_pos e]
        intro w
        injection w with w
        subst w
        have h3 : sRest κ b = 2 := h2
        rw [hr] at h3; cases h3
      · rw [if_neg e]; exact h1.2.2.2.2.2.2.1 h2 k hk
    · have h3 := h1.2.2.2.2.2.2.2.2.2 h2 k hk hd
      refine ⟨h3.1, ?_⟩
      rw [e1]
      by_cases e : k = p
      · subst e; exact absurd h3.2 (hn s h2 hs)
      · rw [if_neg e]; exact h3.2
  · have h1 := hI.2.2.2.1 k hk
    refine ⟨fun j hj => ?_, fun l hl => ?_, h1.2.2⟩
    · rw [e1] at hj
      by_cases e : k = p
      · rw [if_pos e] at hj; injection hj with hj; subst hj; exact hb
      · rw [if_neg e] at hj; exact h1.1 j hj
    · have hl2 : pStore κ k = some l := hl
      have h3 := h1.2.1 l hl2
      refine ⟨h3.1, ?_⟩
      rw [e1]
      by_cases e : k = p
      · subst e; rw [hst] at hl2; cases hl2
      · rw [if_neg e]; exact h3.2
theorem P_give {κ : ll_K} {p t : Int32} (hI : ll_I κ) (h : c_give κ p t = 0) : ll_I (ll_so κ 1 (tN p) (some (tN t))) := by
  have h24 := hI.1.2.2.1
  have h12 := hI.1.2.1
  obtain ⟨h1, h⟩ := c_if h (by decide)
  obtain ⟨h2, h⟩ := c_if h (by decide)
  obtain ⟨⟨h3, -⟩, h⟩ := c_if h (by decide)
  obtain ⟨⟨h4, h5, -⟩, h⟩ := c_if h (by decide)
  obtain ⟨p1, -⟩ := inN_t (by omega) h1
  obtain ⟨t1, -⟩ := inN_t (by omega) h2
  obtain ⟨b, hb⟩ := Option.ne_none_iff_exists'.mp h3
  rw [hb] at h4
  refine P_head hI t1 h5 (fun s hs _ w => ?_) ?_
  · rw [hb] at w; injection w with w; subst w
    have h6 : sRest κ b = 0 := h4
    rw [hs] at h6; cases h6
  · cases e : pStore κ (tN p) with
    | none => rfl
    | some l => have := ((hI.2.2.2.1 _ p1).2.1 l e).2; rw [hb] at this; cases this
theorem P_appeal {κ : ll_K} {p : Int32} (hI : ll_I κ) (h : c_appeal κ p = 0) : ll_I (if apOk κ (tN p) ((pStore κ (tN p)).getD 0) ((pBy κ (tN p)).getD 0) then k_appeal κ (tN p) ((pStore κ (tN p)).getD 0) else κ) := by
  have h24 := hI.1.2.2.1
  obtain ⟨h1, h⟩ := c_if h (by decide)
  obtain ⟨⟨h2, h3⟩, h⟩ := c_if h (by decide)
  obtain ⟨p1, -⟩ := inN_t (by omega) h1
  split
  · next ha =>
    obtain ⟨sl, hsl⟩ := Option.ne_none_iff_exists'.mp h3
    have hp := hI.2.2.2.1 _ p1
    obtain ⟨sb, hsb⟩ := Option.ne_none_iff_exists'.mp (hp.2.2.2.2.2.2 h2)
    have hh := (hp.2.1 sl hsl).2
    have hb := hp.2.2.1 sb hsb
    rw [hsl, hsb] at ha
    have hr : sRest κ sb = 0 := ha.2.2
    rw [hsl]
    -- the store is emptied, the head is set, the fate
    have hI1 : ll_I (ll_so (ll_sz κ 5 sl (lFin κ sl - pWorth κ (tN p))) 2 (tN p) none) := by
      refine ⟨hI.1, hI.2.1, hI.2.2.1, fun k hk => ?_, hI.2.2.2.2.1, hI.2.2.2.2.2.1, hI.2.2.2.2.2.2⟩
      have h4 := hI.2.2.2.1 k hk
      refine ⟨h4.1, fun l hl => ?_, h4.2.2⟩
      have hl2 : (if (2 : Nat) = 2 ∧ k = tN p then none else pStore κ k) = some l := hl
      by_cases e : k = tN p
      · rw [if_pos ⟨rfl, e⟩] at hl2; cases hl2
      · rw [if_neg (fun w => e w.2)] at hl2; exact h4.2.1 l hl2
    have hI2 := P_head (p := tN p) (b := sb) hI1 hb hr (fun s _ _ w => by have w2 : pHead κ (tN p) = some s := w; rw [hh] at w2; cases w2) (by show (if (2 : Nat) = 2 ∧ tN p = tN p then none else _) = none; rw [if_pos ⟨rfl, rfl⟩])
    have hI3 : ll_I (k_appeal κ (tN p) sl) := by
      unfold k_appeal
      rw [hsb]
      refine ⟨hI2.1, hI2.2.1, hI2.2.2.1, fun k hk => ?_, hI2.2.2.2.2.1, hI2.2.2.2.2.2.1, hI2.2.2.2.2.2.2⟩
      have h4 := hI2.2.2.2.1 k hk
      have e4 : pFate (ll_sn (ll_so (ll_so (ll_sz κ 5 sl (lFin κ sl - pWorth κ (tN p))) 2 (tN p) none) 1 (tN p) (some sb)) 4 (tN p) 2) k = if k = tN p then 2 else pFate κ k := by simp [pFate, ll_sn, ll_so, ll_sz]
      refine ⟨h4.1, h4.2.1, h4.2.2.1, ?_, h4.2.2.2.2.1, h4.2.2.2.2.2.1, fun w => ?_⟩
      · rw [e4]; split
        · decide
        · exact h4.2.2.2.1
      · rw [e4] at w
        by_cases e : k = tN p
        · rw [if_pos e] at w; cases w
        · rw [if_neg e] at w; exact h4.2.2.2.2.2.2 w
    exact hI3
  · exact hI
theorem P_sing {κ : ll_K} {s g n v : Int32} (hI : ll_I κ) (h : c_sing κ s g n v = 0) : ll_I (ll_sp κ (tN s) (some (tN g, tN n, tN v))) := by
  have h8 := hI.1.1
  have h12 := hI.1.2.1
  have h99 := hI.1.2.2.2.2.1
  obtain ⟨h1, h⟩ := c_if h (by decide)
  obtain ⟨h2, h⟩ := c_if h (by decide)
  obtain ⟨h3, h⟩ := c_if h (by decide)
  obtain ⟨h4, h⟩ := c_if h (by decide)
  obtain ⟨g1, -⟩ := inN_t (by omega) h2
  have n1 := inR_t (lo := nNight κ) (hi := 99) h3 (by decide) (by omega)
  have v1 := inR_t (lo := 0) (hi := 96) h4 (by decide) (by decide)
  refine ⟨hI.1, hI.2.1, fun k hk => ?_, hI.2.2.2.1, hI.2.2.2.2.1, hI.2.2.2.2.2.1, hI.2.2.2.2.2.2⟩
  have h5 := hI.2.2.1 k hk
  refine ⟨h5.1, h5.2.1, h5.2.2.1, h5.2.2.2.1, h5.2.2.2.2.1, h5.2.2.2.2.2.1, h5.2.2.2.2.2.2.1, h5.2.2.2.2.2.2.2.1, fun q hq => ?_, h5.2.2.2.2.2.2.2.2.2⟩
  have hq2 : (if k = tN s then some (tN g, tN n, tN v) else sPass κ k) = some q := hq
  by_cases e : k = tN s
  · rw [if_pos e] at hq2; injection hq2 with hq2; subst hq2
    exact ⟨g1, n1.2, by show tN v < 97; omega⟩
  · rw [if_neg e] at hq2; exact h5.2.2.2.2.2.2.2.2.1 q hq2
theorem P_gate {κ : ll_K} {o1 o2 fr hr : Int32} (hI : ll_I κ) (h : c_gate κ o1 o2 fr hr = 0) : ll_I (k_addG κ (tN o1) (tN o2) fr hr) := by
  have h8 := hI.1.1
  obtain ⟨h1, h⟩ := c_if h (by decide)
  obtain ⟨h2, h⟩ := c_if h (by decide)
  obtain ⟨h3, h⟩ := c_if h (by decide)
  obtain ⟨h4, h⟩ := c_if h (by decide)
  obtain ⟨h5, h⟩ := c_if h (by decide)
  obtain ⟨h6, h⟩ := c_if h (by decide)
  obtain ⟨a1, -⟩ := inN_t (n := 6) (by decide) h1
  obtain ⟨a2, -⟩ := inN_t (n := 6) (by decide) h2
  have e1 : ∀ k, gOne (k_addG κ (tN o1) (tN o2) fr hr) k = if k = nG κ then tN o1 else gOne κ k := fun k => by simp [gOne, k_addG]
  have e2 : ∀ k, gOther (k_addG κ (tN o1) (tN o2) fr hr) k = if k = nG κ then tN o2 else gOther κ k := fun k => by simp [gOther, k_addG]
  have e3 : ∀ k, gQue (k_addG κ (tN o1) (tN o2) fr hr) k = if k = nG κ then [] else gQue κ k := fun k => rfl
  have e0 : nG (k_addG κ (tN o1) (tN o2) fr hr) = nG κ + 1 := by simp [nG, k_addG]
  refine ⟨⟨by rw [e0]; omega, hI.1.2.1, hI.1.2.2.1, hI.1.2.2.2.1, hI.1.2.2.2.2.1, hI.1.2.2.2.2.2⟩, fun k hk => ?_, fun s hs => ?_, hI.2.2.2.1, hI.2.2.2.2.1, hI.2.2.2.2.2.1, hI.2.2.2.2.2.2⟩
  · rw [e0] at hk
    by_cases e : k = nG κ
    · have q0 : gQue (k_addG κ (tN o1) (tN o2) fr hr) k = [] := by rw [e3, if_pos e]
      refine ⟨by rw [e1, if_pos e]; exact a1, by rw [e2, if_pos e]; exact a2, by rw [q0]; exact Nat.zero_le _, by rw [q0]; exact List.nodup_nil, by rw [q0]; exact fun s hs => absurd hs List.not_mem_nil, fun j hj => ?_⟩
      rw [q0] at hj; exact absurd hj (by simp)
    · have h7 := hI.2.1 k (by omega)
      have q0 : gQue (k_addG κ (tN o1) (tN o2) fr hr) k = gQue κ k := by rw [e3, if_neg e]
      have qa : ∀ j, qAt (k_addG κ (tN o1) (tN o2) fr hr) k j = qAt κ k j := fun j => by show (gQue (k_addG κ (tN o1) (tN o2) fr hr) k).getD j 12 = _; rw [q0]
      refine ⟨by rw [e1, if_neg e]; exact h7.1, by rw [e2, if_neg e]; exact h7.2.1, by rw [q0]; exact h7.2.2.1, by rw [q0]; exact h7.2.2.2.1, fun s hs => ?_, fun j hj hb => ?_⟩
      · rw [q0] at hs
        have := h7.2.2.2.2.1 s hs
        rw [e1, e2, if_neg e, if_neg e]; exact this
      · rw [q0] at hj; rw [qa] at hb ⊢; exact h7.2.2.2.2.2 j hj hb
  · have h7 := hI.2.2.1 s hs
    refine ⟨h7.1, h7.2.1, fun g hg => by rw [e0]; have := h7.2.2.1 g hg; omega, fun hr1 => ?_, h7.2.2.2.2.1, h7.2.2.2.2.2.1, h7.2.2.2.2.2.2.1, h7.2.2.2.2.2.2.2.1, fun q hq => ?_, h7.2.2.2.2.2.2.2.2.2⟩
    · obtain ⟨g, g1, g2, g3⟩ := h7.2.2.2.1 hr1
      refine ⟨g, g1, by rw [e0]; omega, ?_⟩
      rw [e3, if_neg (by omega)]; exact g3
    · have := h7.2.2.2.2.2.2.2.2.1 q hq
      exact ⟨by rw [e0]; omega, this.2⟩
theorem P_sleeper {κ : ll_K} {l p : Int32} {b : Bool} (hI : ll_I κ) (h : c_sleeper κ l p = 0) : ll_I (k_addS κ (tN l) b p) := by
  have h12 := hI.1.2.1
  obtain ⟨h1, h⟩ := c_if h (by decide)
  obtain ⟨h2, h⟩ := c_if h (by decide)
  obtain ⟨h3, h⟩ := c_if h (by decide)
  obtain ⟨a1, -⟩ := inN_t (n := 6) (by decide) h1
  have a2 := inR_le h2
  have e0 : nS (k_addS κ (tN l) b p) = nS κ + 1 := by simp [nS, k_addS, ll_sb, ll_sp, ll_sz, ll_so, ll_sn]
  have e1 : ∀ k, sLand (k_addS κ (tN l) b p) k = if k = nS κ then tN l else sLand κ k := fun k => by simp [sLand, k_addS, ll_sb, ll_sp, ll_sz, ll_so, ll_sn]
  have e2 : ∀ k, sRest (k_addS κ (tN l) b p) k = if k = nS κ then 0 else sRest κ k := fun k => by simp [sRest, k_addS, ll_sb, ll_sp, ll_sz, ll_so, ll_sn]
  have e3 : ∀ k, sGate (k_addS κ (tN l) b p) k = if k = nS κ then none else sGate κ k := fun k => by simp [sGate, k_addS, ll_sb, ll_sp, ll_sz, ll_so, ll_sn]
  have e4 : ∀ k, sPat (k_addS κ (tN l) b p) k = if k = nS κ then p else sPat κ k := fun k => by simp [sPat, k_addS, ll_sb, ll_sp, ll_sz, ll_so, ll_sn]
  have e5 : ∀ k, k ≠ nS κ → sDecl (k_addS κ (tN l) b p) k = sDecl κ k := fun k e => by simp [sDecl, k_addS, ll_sb, ll_sp, ll_sz, ll_so, ll_sn, e]
  have e6 : ∀ k, sPass (k_addS κ (tN l) b p) k = if k = nS κ then none else sPass κ k := fun k => by simp [sPass, k_addS, ll_sb, ll_sp, ll_sz, ll_so, ll_sn]
  have e7 : ∀ k, k ≠ nS κ → sBaby (k_addS κ (tN l) b p) k = sBaby κ k := fun k e => by simp [sBaby, k_addS, ll_sb, ll_sp, ll_sz, ll_so, ll_sn, e]
  have e8 : ∀ k, pHead (k_addS κ (tN l) b p) k = pHead κ k := fun k => by simp [pHead, k_addS, ll_sb, ll_sp, ll_sz, ll_so, ll_sn]
  have e9 : ∀ k, pStore (k_addS κ (tN l) b p) k = pStore κ k := fun k => by simp [pStore, k_addS, ll_sb, ll_sp, ll_sz, ll_so, ll_sn]
  have e10 : ∀ k, pBy (k_addS κ (tN l) b p) k = pBy κ k := fun k => by simp [pBy, k_addS, ll_sb, ll_sp, ll_sz, ll_so, ll_sn]
  have e11 : ∀ k, gOne (k_addS κ (tN l) b p) k = gOne κ k := fun k => by simp [gOne, k_addS, ll_sb, ll_sp, ll_sz, ll_so, ll_sn]
  have e12 : ∀ k, gOther (k_addS κ (tN l) b p) k = gOther κ k := fun k => by simp [gOther, k_addS, ll_sb, ll_sp, ll_sz, ll_so, ll_sn]
  refine ⟨⟨hI.1.1, by rw [e0]; omega, hI.1.2.2.1, hI.1.2.2.2.1, hI.1.2.2.2.2.1, hI.1.2.2.2.2.2⟩, fun k hk => ?_, fun s hs => ?_, fun k hk => ?_, fun k hk => ?_, hI.2.2.2.2.2.1, hI.2.2.2.2.2.2⟩
  · have h7 := hI.2.1 k hk
    have hql := h7.2.2.1
    refine ⟨by rw [e11]; exact h7.1, by rw [e12]; exact h7.2.1, h7.2.2.1, h7.2.2.2.1, fun s hs => ?_, fun j hj hb => ?_⟩
    · have h9 := h7.2.2.2.2.1 s hs
      have hne : s ≠ nS κ := by omega
      refine ⟨by rw [e0]; omega, by rw [e2, if_neg hne]; exact h9.2.1, by rw [e3, if_neg hne]; exact h9.2.2.1, ?_⟩
      rw [e11, e12, e1, if_neg hne]; exact h9.2.2.2
    · have hj2 : j + 1 < (gQue κ k).length := hj
      have m1 := (h7.2.2.2.2.1 _ (qAt_mem hj2)).1
      have m2 := (h7.2.2.2.2.1 _ (qAt_mem (show j < (gQue κ k).length by omega))).1
      have hb2 : sBaby (k_addS κ (tN l) b p) (qAt κ k (j + 1)) = true := hb
      show sBaby (k_addS κ (tN l) b p) (qAt κ k j) = true
      rw [e7 _ (by omega)] at hb2 ⊢
      exact h7.2.2.2.2.2 j hj2 hb2
  · rw [e0] at hs
    by_cases e : s = nS κ
    · refine ⟨by rw [e1, if_pos e]; exact a1, by rw [e2, if_pos e]; decide, fun g hg => (by rw [e3, if_pos e] at hg; cases hg), fun w => (by rw [e2, if_pos e] at w; cases w), fun _ => (by rw [e3, if_pos e]), ?_, fun w => (by rw [e2, if_pos e] at w; cases w), fun _ => ?_, fun q hq => (by rw [e6, if_pos e] at hq; cases hq), fun w => (by rw [e2, if_pos e] at w; cases w)⟩
      · rw [e4, if_pos e]
        refine ⟨Int32.le_trans (by decide) a2.1, a2.2⟩
      · rw [e4, if_pos e]
        exact Int32.lt_of_lt_of_le (by decide) a2.1
    · have h7 := hI.2.2.1 s (by omega)
      rw [e1, e2, e3, e4, e5 s e, e6, if_neg e, if_neg e, if_neg e, if_neg e, if_neg e]
      exact ⟨h7.1, h7.2.1, h7.2.2.1, h7.2.2.2.1, h7.2.2.2.2.1, h7.2.2.2.2.2.1, fun w q hq => by rw [e8]; exact h7.2.2.2.2.2.2.1 w q hq, h7.2.2.2.2.2.2.2.1, h7.2.2.2.2.2.2.2.2.1, fun w q hq hd => by rw [e8]; exact h7.2.2.2.2.2.2.2.2.2 w q hq hd⟩
  · have h7 := hI.2.2.2.1 k hk
    refine ⟨fun j hj => by rw [e8] at hj; rw [e0]; have := h7.1 j hj; omega, fun l2 hl => by rw [e9] at hl; rw [e8]; exact h7.2.1 l2 hl, fun j hj => by rw [e10] at hj; rw [e0]; have := h7.2.2.1 j hj; omega, ?_⟩
    exact ⟨h7.2.2.2.1, h7.2.2.2.2.1, h7.2.2.2.2.2.1, fun w => by rw [e10]; exact h7.2.2.2.2.2.2 w⟩
  · have h7 := hI.2.2.2.2.1 k hk
    exact ⟨by rw [e0]; have : hS κ k < nS κ := h7.1; exact Nat.lt_succ_of_lt this, h7.2⟩
theorem P_part {κ : ll_K} {s e w x : Int32} (hI : ll_I κ) (h : c_part κ s e w x = 0) : ll_I (k_addP κ (tN e) w x (tN s)) := by
  have h12 := hI.1.2.1
  have h24 := hI.1.2.2.1
  obtain ⟨h1, h⟩ := c_if h (by decide)
  obtain ⟨h2, h⟩ := c_if h (by decide)
  obtain ⟨h3, h⟩ := c_if h (by decide)
  obtain ⟨h4, h⟩ := c_if h (by decide)
  obtain ⟨⟨h5, h6⟩, h⟩ := c_if h (by decide)
  obtain ⟨s1, -⟩ := inN_t (by omega) h1
  have d1 := inR_t (lo := 0) (hi := 7) h2 (by decide) (by decide)
  have w1 := inR_le h3
  have e0 : nP (k_addP κ (tN e) w x (tN s)) = nP κ + 1 := by simp [nP, k_addP, ll_sz, ll_so, ll_sn]
  have f1 : ∀ k, pHead (k_addP κ (tN e) w x (tN s)) k = if k = nP κ then some (tN s) else pHead κ k := fun k => by simp [pHead, k_addP, ll_sz, ll_so, ll_sn]
  have f2 : ∀ k, pStore (k_addP κ (tN e) w x (tN s)) k = if k = nP κ then none else pStore κ k := fun k => by simp [pStore, k_addP, ll_sz, ll_so, ll_sn]
  have f3 : ∀ k, pBy (k_addP κ (tN e) w x (tN s)) k = if k = nP κ then none else pBy κ k := fun k => by simp [pBy, k_addP, ll_sz, ll_so, ll_sn]
  have f4 : ∀ k, pFate (k_addP κ (tN e) w x (tN s)) k = if k = nP κ then 0 else pFate κ k := fun k => by simp [pFate, k_addP, ll_sz, ll_so, ll_sn]
  have f5 : ∀ k, pDream (k_addP κ (tN e) w x (tN s)) k = if k = nP κ then tN e else pDream κ k := fun k => by simp [pDream, k_addP, ll_sz, ll_so, ll_sn]
  have f6 : ∀ k, pWorth (k_addP κ (tN e) w x (tN s)) k = if k = nP κ then w else pWorth κ k := fun k => by simp [pWorth, k_addP, ll_sz, ll_so, ll_sn]
  have g1 : ∀ k, sGate (k_addP κ (tN e) w x (tN s)) k = sGate κ k := fun k => by simp [sGate, k_addP, ll_sz, ll_so, ll_sn]
  refine ⟨⟨hI.1.1, hI.1.2.1, by rw [e0]; omega, hI.1.2.2.2.1, hI.1.2.2.2.2.1, hI.1.2.2.2.2.2⟩, fun k hk => ?_, fun k hk => ?_, fun k hk => ?_, hI.2.2.2.2.1, hI.2.2.2.2.2.1, hI.2.2.2.2.2.2⟩
  · have h7 := hI.2.1 k hk
    exact ⟨h7.1, h7.2.1, h7.2.2.1, h7.2.2.2.1, fun s2 hs2 => by have h9 := h7.2.2.2.2.1 s2 hs2; exact ⟨h9.1, h9.2.1, by rw [g1]; exact h9.2.2.1, h9.2.2.2⟩, h7.2.2.2.2.2⟩
  · have h7 := hI.2.2.1 k hk
    refine ⟨h7.1, h7.2.1, fun g hg => by rw [g1] at hg; exact h7.2.2.1 g hg, fun z => by rw [g1]; exact h7.2.2.2.1 z, fun z => by rw [g1]; exact h7.2.2.2.2.1 z, h7.2.2.2.2.2.1, fun z q hq => ?_, h7.2.2.2.2.2.2.2.1, h7.2.2.2.2.2.2.2.2.1, fun z q hq hd => ?_⟩
    · rw [f1]
      by_cases eq : q = nP κ
      · rw [if_pos eq]; intro z2; injection z2 with z2
        have z3 : sRest κ k = 2 := z
        rw [← z2, h6] at z3; cases z3
      · rw [if_neg eq]; rw [e0] at hq; exact h7.2.2.2.2.2.2.1 z q (by omega)
    · have h9 := h7.2.2.2.2.2.2.2.2.2 z q hq hd
      refine ⟨by rw [e0]; omega, ?_⟩
      rw [f1, if_neg (by omega)]; exact h9.2
  · rw [e0] at hk
    by_cases eq : k = nP κ
    · rw [f1, f2, f3, f4, f5, f6, if_pos eq, if_pos eq, if_pos eq, if_pos eq, if_pos eq, if_pos eq]
      refine ⟨fun j hj => by injection hj with hj; subst hj; exact s1, fun l hl => (by cases hl), fun j hj => (by cases hj), by decide, by omega, w1, fun z => (by cases z)⟩
    · have h7 := hI.2.2.2.1 k (by omega)
      rw [f1, f2, f3, f4, f5, f6, if_neg eq, if_neg eq, if_neg eq, if_neg eq, if_neg eq, if_neg eq]
      exact h7
theorem P_join {κ : ll_K} {s g d : Int32} (hI : ll_I κ) (h : c_join κ s g d = 0) : ll_I (k_join κ (tN s) (tN g) d) := by
  have h8 := hI.1.1
  have h12 := hI.1.2.1
  have h24 := hI.1.2.2.1
  obtain ⟨h1, h⟩ := c_if h (by decide)
  obtain ⟨h2, h⟩ := c_if h (by decide)
  obtain ⟨⟨h3, h4⟩, h⟩ := c_if h (by decide)
  obtain ⟨⟨h5, h6⟩, h⟩ := c_if h (by decide)
  obtain ⟨s1, -⟩ := inN_t (by omega) h1
  obtain ⟨g1, -⟩ := inN_t (by omega) h2
  have hg := hI.2.1 _ g1
  have hs := (hI.2.2.1 _ s1).1
  refine I_join hI s1 g1 h5 ?_ (fun p hp hd => ?_)
  · rcases h6 with w | w
    · exact Or.inl ((nI_eq (by omega) (by omega)).mp w)
    · exact Or.inr ((nI_eq (by omega) (by omega)).mp w)
  · have hh : ll_has (headOf κ (tN s)) p := Decidable.byContradiction (fun z => by
      have h7 : ll_has (d &&& (headOf κ (tN s) ^^^ (-1))) p := by
        rw [ll_hasb (by omega), ll_btand, Bool.and_eq_true]
        exact ⟨(ll_hasb (by omega)).mp hd, (ll_hasb (by omega)).mp ((has_not (by omega)).mpr z)⟩
      rw [h4, ll_hasb (by omega)] at h7
      simp [ll_bt] at h7)
    rw [ll_hasb (by omega), headOf, ll_setb _ (by omega) (by omega)] at hh
    simp at hh
    exact hh
theorem P_leave {κ : ll_K} {s : Int32} (hI : ll_I κ) (h : c_leave κ s = 0) : ll_I (k_leave κ (tN s)) := by
  have h12 := hI.1.2.1
  obtain ⟨h1, h⟩ := c_if h (by decide)
  obtain ⟨h2, h⟩ := c_if h (by decide)
  exact I_leave hI (inN_t (by omega) h1).1 h2
theorem P_yawn {κ : ll_K} {g : Int32} (hI : ll_I κ) (h : c_yawn κ g = 0) : ll_I (k_yawn κ (tN g)) := by
  have h8 := hI.1.1
  obtain ⟨h1, h⟩ := c_if h (by decide)
  obtain ⟨h2, h⟩ := c_if h (by decide)
  exact I_yawn hI (inN_t (by omega) h1).1 h2.2
theorem P_pass {κ : ll_K} {H : Int32} (hI : ll_I κ) (h : c_pass κ H = 0) : ll_I (k_pass κ H) := by
  obtain ⟨h1, h⟩ := c_if h (by decide)
  obtain ⟨h2, h⟩ := c_if h (by decide)
  exact (goN_ok hI (Nat.not_lt.mp h2) _ (Nat.le_refl _)).1
theorem le_land (l r a : Int32) : c_land l r a ≤ 2 := by unfold c_land; (repeat' split) <;> decide
theorem le_trade (κ : ll_K) (f t m : Int32) : c_trade κ f t m ≤ 3 := by unfold c_trade; (repeat' split) <;> decide
theorem le_gate (κ : ll_K) (o1 o2 fr hr : Int32) : c_gate κ o1 o2 fr hr ≤ 3 := by unfold c_gate; (repeat' split) <;> decide
theorem le_odds (κ : ll_K) (g o : Int32) : c_odds κ g o ≤ 2 := by unfold c_odds; (repeat' split) <;> decide
theorem le_gate1 (κ : ll_K) (g : Int32) : c_gate1 κ g ≤ 1 := by unfold c_gate1; (repeat' split) <;> decide
theorem le_sleeper (κ : ll_K) (l p : Int32) : c_sleeper κ l p ≤ 3 := by unfold c_sleeper; (repeat' split) <;> decide
theorem le_part (κ : ll_K) (s e w x : Int32) : c_part κ s e w x ≤ 3 := by unfold c_part; (repeat' split) <;> decide
theorem le_give (κ : ll_K) (p t : Int32) : c_give κ p t ≤ 2 := by unfold c_give; (repeat' split) <;> decide
theorem le_sing (κ : ll_K) (s g n v : Int32) : c_sing κ s g n v ≤ 2 := by unfold c_sing; (repeat' split) <;> decide
theorem le_revoke (κ : ll_K) (g v : Int32) : c_revoke κ g v ≤ 2 := by unfold c_revoke; (repeat' split) <;> decide
theorem le_join (κ : ll_K) (s g d : Int32) : c_join κ s g d ≤ 3 := by unfold c_join; (repeat' split) <;> decide
theorem le_leave (κ : ll_K) (s : Int32) : c_leave κ s ≤ 2 := by unfold c_leave; (repeat' split) <;> decide
theorem le_yawn (κ : ll_K) (g : Int32) : c_yawn κ g ≤ 2 := by unfold c_yawn; (repeat' split) <;> decide
theorem le_appeal (κ : ll_K) (p : Int32) : c_appeal κ p ≤ 2 := by unfold c_appeal; (repeat' split) <;> decide
theorem le_pass (κ : ll_K) (H : Int32) : c_pass κ H ≤ 2 := by unfold c_pass; (repeat' split) <;> decide
theorem le_ofLand (l w : Int32) : c_ofLand l w ≤ 2 := by unfold c_ofLand; (repeat' split) <;> decide
theorem le_ofGate (κ : ll_K) (g w : Int32) : c_ofGate κ g w ≤ 2 := by unfold c_ofGate; (repeat' split) <;> decide
theorem le_ofSleeper (κ : ll_K) (s w : Int32) : c_ofSleeper κ s w ≤ 2 := by unfold c_ofSleeper; (repeat' split) <;> decide
theorem le_ofPart (κ : ll_K) (p w : Int32) : c_ofPart κ p w ≤ 2 := by unfold c_ofPart; (repeat' split) <;> decide
theorem le_isGood (κ : ll_K) (s g : Int32) : c_isGood κ s g ≤ 1 := by unfold c_isGood; (repeat' split) <;> decide
theorem le_night (w : Int32) : c_night w ≤ 1 := by unfold c_night; (repeat' split) <;> decide
theorem le_way (f t : Int32) : c_way f t ≤ 1 := by unfold c_way; (repeat' split) <;> decide
theorem le_plan (κ : ll_K) (p g : Int32) : c_plan κ p g ≤ 2 := by unfold c_plan; (repeat' split) <;> decide
