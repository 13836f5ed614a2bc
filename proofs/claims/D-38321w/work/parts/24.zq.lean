/-! ===== zq: plans, second ===== -/
theorem jd_mat_t {G : jd_G} {h : jd_H} {q n L f k : Nat} {F : Nat → Nat → Int32} {y : Nat × jd_E} (e : h (f + 1, k) = some y) : jd_mat G h q n L F (f + 1, k) = some y := (jd_mat_n (by show f + 1 ≠ 0; omega)).trans e
theorem WC.mat {G : jd_G} {β : ll_B} {κ : ll_K} {h : jd_H} (hw : WC G β κ h) {q n L : Nat} {F : Nat → Nat → Int32} (hf : ∀ j, j < n + 1 → h (0, q + j) = none) : WC G β κ (jd_mat G h q n L F) := by
  have hN : ∀ {f k : Nat}, jd_mat G h q n L F (f + 1, k) = h (f + 1, k) := fun {f k} => jd_mat_n (by show f + 1 ≠ 0; omega)
  refine ⟨jd_mat_t (w_this hw), jd_mat_t (w_row hw), fun k hk => jd_mat_t (w_land hw k hk), fun k hk => jd_mat_t (w_gate hw k hk), fun k hk => jd_mat_t (w_sleeper hw k hk), fun k hk => jd_mat_t (w_part hw k hk), ?_, ?_, ?_, ?_, ?_, ?_, fun k hk => jd_mat_t (w_rev hw k hk), w_passN hw, fun k hk p hp => ⟨jd_mat_o hf (w_pass hw k hk p hp).1, jd_mat_o hf (w_pass hw k hk p hp).2⟩, fun k hk => jd_mat_o hf (w_hid hw k hk), fun k => ?_⟩
  · obtain ⟨m, hm⟩ := w_lands hw; exact ⟨m, jd_mat_t hm⟩
  · obtain ⟨m, hm⟩ := w_gates hw; exact ⟨m, jd_mat_t hm⟩
  · obtain ⟨m, hm⟩ := w_sleepers hw; exact ⟨m, jd_mat_t hm⟩
  · obtain ⟨m, hm⟩ := w_parts hw; exact ⟨m, jd_mat_t hm⟩
  · obtain ⟨m, hm⟩ := w_hidings hw; exact ⟨m, jd_mat_t hm⟩
  · intro k hk; obtain ⟨m, hm⟩ := w_queue hw k hk; exact ⟨m, jd_mat_t hm⟩
  · obtain ⟨f1, f2, f3⟩ := w_free hw k
    exact ⟨fun w => ⟨hN.trans (f1 w).1, hN.trans (f1 w).2.1, hN.trans (f1 w).2.2⟩, fun w => hN.trans (f2 w), fun w => hN.trans (f3 w)⟩
/-- the table of catches is the answer -/
def jd_ctb (G : jd_G) (h : jd_H) (κ : ll_K) : Option Value → jd_H → Prop := fun v h' => ∃ q, (∀ j, j < nG κ + 1 + 1 → h (0, q + j) = none) ∧ v = some (.ref q) ∧ h' = jd_mat G h q (nG κ + 1) (10 * nG κ + 1) (FF κ (nG κ))
/-- the least sum -/
def leastS (T : Nat → Nat) (p n : Nat) : Option Nat := ll_find (fun s => p ≤ T s) n
/-- a gate's odds in a plan -/
def oddsI (w : Nat) (T : Nat → Nat) (s : Nat) (l : Int32) : Nat := (ll_find (fun o => l ≤ nI (w * o / 10 + T (s - o))) (min 10 s + 1)).getD 0
theorem mxO_ex {w s : Nat} {T : Nat → Nat} {l : Int32} : ∀ o, l ≤ nI (mxO w T s o) → l ≤ 0 ∨ ∃ k, k < o ∧ l ≤ nI (w * k / 10 + T (s - k))
  | 0, h => Or.inl h
  | o + 1, h => by
    by_cases e : mxO w T s o ≤ w * o / 10 + T (s - o)
    · have : mxO w T s (o + 1) = w * o / 10 + T (s - o) := Nat.max_eq_right e
      rw [this] at h
      exact Or.inr ⟨o, Nat.lt_succ_self o, h⟩
    · have : mxO w T s (o + 1) = mxO w T s o := Nat.max_eq_left (by omega)
      rw [this] at h
      rcases mxO_ex o h with a | ⟨k, hk, hl⟩
      · exact Or.inl a
      · exact Or.inr ⟨k, by omega, hl⟩
theorem odds_ex {w s : Nat} {T : Nat → Nat} {l : Int32} (hb : w * 0 / 10 + T (s - 0) < 2 ^ 31) (h : l ≤ nI (mxO w T s (min 10 s + 1))) : ∃ k, k < min 10 s + 1 ∧ l ≤ nI (w * k / 10 + T (s - k)) := by
  rcases mxO_ex _ h with a | a
  · refine ⟨0, by omega, ?_⟩
    rw [i_le] at a ⊢
    rw [nI_toInt hb]
    have : (0 : Int32).toInt = 0 := by decide
    omega
  · exact a
theorem ll_find_ex {P : Nat → Prop} [DecidablePred P] {n k : Nat} (hk : k < n) (hp : P k) : ∃ j, ll_find P n = some j ∧ j ≤ k := by
  cases e : ll_find P n with
  | none =>
    simp only [ll_find, List.find?_eq_none, List.mem_range, decide_eq_true_eq] at e
    exact absurd hp (e k hk)
  | some j =>
    refine ⟨j, rfl, ?_⟩
    rcases Nat.lt_or_ge k j with w | w
    · exfalso
      have h3 := (List.find?_eq_some_iff_getElem.mp e).2
      obtain ⟨i, hi, hij, hlt⟩ := h3
      simp only [List.getElem_range] at hij hlt
      subst hij
      have := hlt k w
      simp only [Bool.not_eq_eq_eq_not, Bool.not_true, decide_eq_false_iff_not] at this
      exact this hp
    · exact w
theorem ll_find_min {P : Nat → Prop} [DecidablePred P] {n j : Nat} (h : ll_find P n = some j) : ∀ i, i < j → ¬ P i := fun i hi hp => by
  obtain ⟨k, h1, h2⟩ := ll_find_ex (Nat.lt_trans hi (ll_find_lt h)) hp
  rw [h] at h1; injection h1 with h1; omega
theorem odds_ok {w s : Nat} {T : Nat → Nat} {l : Int32} (hb : w * 0 / 10 + T (s - 0) < 2 ^ 31) (h : l ≤ nI (mxO w T s (min 10 s + 1))) : oddsI w T s l < min 10 s + 1 ∧ l ≤ nI (w * oddsI w T s l / 10 + T (s - oddsI w T s l)) ∧ ∀ i, i < oddsI w T s l → ¬ l ≤ nI (w * i / 10 + T (s - i)) := by
  obtain ⟨k, hk, hl⟩ := odds_ex hb h
  obtain ⟨j, h1, h2⟩ := ll_find_ex (P := fun o => l ≤ nI (w * o / 10 + T (s - o))) hk hl
  have e : oddsI w T s l = j := by unfold oddsI; rw [h1]; rfl
  rw [e]
  exact ⟨ll_find_lt h1, ll_find_P h1, ll_find_min h1⟩
/-- sum and promise that are left when the first g gates are planned -/
def plS (κ : ll_K) (s0 p : Nat) : Nat → Nat × Int32
  | 0 => (s0, nI p)
  | g + 1 => ((plS κ s0 p g).1 - oddsI (hwN κ g) (catM κ (nG κ - (g + 1))) (plS κ s0 p g).1 (plS κ s0 p g).2, (plS κ s0 p g).2 - nI (hwN κ g * oddsI (hwN κ g) (catM κ (nG κ - (g + 1))) (plS κ s0 p g).1 (plS κ s0 p g).2 / 10))
def plO (κ : ll_K) (s0 p g : Nat) : Nat := oddsI (hwN κ g) (catM κ (nG κ - (g + 1))) (plS κ s0 p g).1 (plS κ s0 p g).2
theorem catM_s {κ : ll_K} {g s : Nat} (hg : g < nG κ) : catM κ (nG κ - g) s = mxO (hwN κ g) (catM κ (nG κ - (g + 1))) s (min 10 s + 1) := by
  rw [show nG κ - g = (nG κ - (g + 1)) + 1 by omega]
  show mxO (hwN κ (nG κ - (nG κ - (g + 1) + 1))) _ _ _ = _
  rw [show nG κ - (nG κ - (g + 1) + 1) = g by omega]
theorem plS_ok {κ : ll_K} (hI : ll_I κ) {s0 p : Nat} (hp : p ≤ 2000) (h0 : p ≤ catM κ (nG κ) s0) (hs0 : s0 ≤ 80) : ∀ g, g ≤ nG κ → (plS κ s0 p g).1 ≤ s0 ∧ (plS κ s0 p g).2 ≤ nI (catM κ (nG κ - g) (plS κ s0 p g).1) ∧ -(28512 * (g : Int)) ≤ (plS κ s0 p g).2.toInt ∧ (plS κ s0 p g).2.toInt ≤ 2000
  | 0, _ => by
    have h8 := hI.1.1
    have hb := catM_bd hI (nG κ) (Nat.le_refl _) s0
    refine ⟨Nat.le_refl _, ?_, ?_, ?_⟩
    · show nI p ≤ nI (catM κ (nG κ - 0) s0)
      rw [i_le, nI_toInt (by omega), nI_toInt (by rw [Nat.sub_zero]; omega), Nat.sub_zero]
      omega
    · show _ ≤ (nI p).toInt
      rw [nI_toInt (by omega)]; omega
    · show (nI p).toInt ≤ _
      rw [nI_toInt (by omega)]; omega
  | g + 1, hg => by
    have h8 := hI.1.1
    obtain ⟨h1, h2, h3, h4⟩ := plS_ok hI hp h0 hs0 g (by omega)
    have hw := (hw_is hI (g := g) (by omega)).2
    have hb := fun x => catM_bd hI (nG κ - (g + 1)) (by omega) x
    rw [catM_s (by omega)] at h2
    obtain ⟨o1, o2, o3⟩ := odds_ok (by have := hb ((plS κ s0 p g).1 - 0); omega) h2
    generalize ho : oddsI (hwN κ g) (catM κ (nG κ - (g + 1))) (plS κ s0 p g).1 (plS κ s0 p g).2 = o at o1 o2 o3
    have hm : hwN κ g * o ≤ 28512 * 10 := Nat.mul_le_mul hw (by omega)
    have hbo := hb ((plS κ s0 p g).1 - o)
    have e1 : (plS κ s0 p (g + 1)).1 = (plS κ s0 p g).1 - o := by show _ - oddsI _ _ _ _ = _; rw [ho]
    have e2 : (plS κ s0 p (g + 1)).2 = (plS κ s0 p g).2 - nI (hwN κ g * o / 10) := by show _ - nI (_ * oddsI _ _ _ _ / 10) = _; rw [ho]
    have ha : (nI (hwN κ g * o / 10)).toInt = ((hwN κ g * o / 10 : Nat) : Int) := nI_toInt (by omega)
    have e3 : ((plS κ s0 p g).2 - nI (hwN κ g * o / 10)).toInt = (plS κ s0 p g).2.toInt - ((hwN κ g * o / 10 : Nat) : Int) := by
      rw [i_sub (by rw [ha]; omega) (by rw [ha]; omega), ha]
    rw [e1, e2]
    rw [i_le, nI_toInt (by omega)] at o2
    refine ⟨by omega, ?_, ?_, ?_⟩
    · rw [i_le, e3, nI_toInt (by omega)]; omega
    · rw [e3]; omega
    · rw [e3]; omega
def planVal (κ : ll_K) (p : Nat) (o : Option Nat) : Int32 := match leastS (catM κ (nG κ)) p (10 * nG κ + 1) with
  | none => -1
  | some s0 => match o with
    | none => nI s0
    | some g => nI (plO κ s0 p g)
theorem jd_idivN {G : jd_G} {M : jd_M} {d cb sb pc a b : Nat} {ls : List (Option Value)} {st : List Value} {h : jd_H} {Q : Option Value → jd_H → Prop} {X : String → jd_H → Prop} (dc : decode M.2.2.1 pc = .ok (.idiv, 1)) (ha : a < 2 ^ 31) (hb : b < 2 ^ 31) (h0 : 0 < b) (k : jd_W G M d cb sb (pc + 1) ls (.int (nI (a / b)) :: st) h Q X) : jd_W G M d cb sb pc ls (.int (nI b) :: .int (nI a) :: st) h Q X := by
  refine jd_idiv dc (fun e => ?_) (by rw [nI_div ha hb]; exact k)
  have h1 := congrArg Int32.toInt e
  rw [nI_toInt hb] at h1
  have h2 : (0 : Int32).toInt = 0 := by decide
  omega
theorem gI_0 {κ : ll_K} (h8 : nG κ ≤ 8) : nI (nG κ) - 1 = gI κ 0 := by
  have h1 : (1 : Int32).toInt = 1 := by decide
  have hm1 : (-1 : Int32).toInt = -1 := by decide
  unfold gI
  apply Int32.toInt_inj.mp
  rw [i_sub (by rw [nI_toInt (by omega), h1]; omega) (by rw [nI_toInt (by omega), h1]; omega), nI_toInt (by omega), h1]
  split
  · rw [nI_toInt (by omega)]; omega
  · rw [hm1]; omega
theorem jd_mat_keep {G : jd_G} {h : jd_H} {q n L : Nat} {F : Nat → Nat → Int32} (hf : ∀ j, j < n + 1 → h (0, q + j) = none) : ∀ i x, h i = some x → jd_mat G h q n L F i = some x := fun i x e => by
  by_cases z : i.1 = 0
  · have : i = (0, i.2) := Prod.ext z rfl
    rw [this] at e ⊢
    exact jd_mat_o hf e
  · exact (jd_mat_n z).trans e
theorem jd_tmp_keep {h : jd_H} {q : Nat} {y : Nat × jd_E} (hf : h (0, q) = none) : ∀ i x, h i = some x → jd_up h (0, q) y i = some x := fun i x e => by
  rw [jd_up_n]
  · exact e
  · intro z; subst z; rw [hf] at e; cases e
