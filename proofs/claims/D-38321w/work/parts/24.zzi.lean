/-! ===== zzi: what is revoked spreads ===== -/
abbrev besN (κ : ll_K) (n k : Nat) : Prop := (gOne κ n = gOne κ k ∨ gOther κ n = gOne κ k) ∨ (gOne κ n = gOther κ k ∨ gOther κ n = gOther κ k)
/-- what gate k has of the first n gates -/
def spV (κ : ll_K) (k : Nat) : Nat → Nat → Bool
  | 0, _ => false
  | n + 1, v => spV κ k n v || (decide (v < 97) && (decide (n = k ∨ besN κ n k) && gRev κ n v))
def spM (κ : ll_K) (k n v x : Nat) : Bool := spV κ k n x || (decide (x < v) && gRev κ n x)
theorem spM_0 {κ : ll_K} {k n : Nat} : spV κ k n = spM κ k n 0 := by
  funext x; simp [spM]
theorem spM_y {κ : ll_K} {k n : Nat} (h : n = k ∨ besN κ n k) : spM κ k n 97 = spV κ k (n + 1) := by
  funext x
  simp only [spM, spV, decide_eq_true h, Bool.true_and]
theorem spM_n {κ : ll_K} {k n : Nat} (h : ¬ (n = k ∨ besN κ n k)) : spV κ k n = spV κ k (n + 1) := by
  funext x
  simp only [spV, decide_eq_false h, Bool.false_and, Bool.and_false, Bool.or_false]
theorem spM_up {κ : ll_K} {k n v : Nat} (hv : v < 2 ^ 31) : upd (fun x => jd_b (spM κ k n v x = true)) (nI v).toNatClampNeg (jd_b (spM κ k n v v = true ∨ gRev κ n v = true)) = fun x => jd_b (spM κ k n (v + 1) x = true) := by
  rw [nI_clamp hv]
  funext x
  simp only [upd]
  by_cases e : x = v
  · subst e
    rw [if_pos rfl]
    refine jd_bcong ?_
    simp [spM]
  · rw [if_neg e]
    refine jd_bcong ?_
    simp only [spM]
    have : (x < v + 1) = (x < v) := propext (by omega)
    simp only [this]
def k_spP (κ : ll_K) (i : Nat) : ll_K := (κ.1, κ.2.1, κ.2.2.1, fun a v => if a < i then spV κ a (nG κ) v else gRev κ a v, κ.2.2.2.2)
def k_spread (κ : ll_K) : ll_K := k_spP κ (nG κ)
theorem spP_0 {κ : ll_K} : k_spP κ 0 = κ := by
  refine ll_Kext (fun _ _ => rfl) (fun _ _ => rfl) (fun _ _ => rfl) (fun a b => ?_) (fun _ => rfl) (fun _ => rfl) rfl (fun _ => rfl)
  simp [k_spP]
theorem spP_s {κ : ll_K} {k : Nat} : ll_sr (k_spP κ k) k (spV κ k (nG κ)) = k_spP κ (k + 1) := by
  refine ll_Kext (fun _ _ => rfl) (fun _ _ => rfl) (fun _ _ => rfl) (fun a b => ?_) (fun _ => rfl) (fun _ => rfl) rfl (fun _ => rfl)
  simp only [ll_sr, k_spP]
  by_cases e : a = k
  · subst e; rw [if_pos rfl, if_pos (Nat.lt_succ_self a)]
  · rw [if_neg e]
    have : (a < k + 1) = (a < k) := propext (by omega)
    simp only [this]
theorem I_spP {κ : ll_K} {i : Nat} (hI : ll_I κ) : ll_I (k_spP κ i) := hI
/-- a day more -/
def k_dn1 (κ : ll_K) (k : Nat) : ll_K := (κ.1, fun a b => if a = 3 ∧ b < k then 0 else κ.2.1 a b, κ.2.2)
def k_dn2 (κ : ll_K) (k : Nat) : ll_K := (κ.1, κ.2.1, κ.2.2.1, κ.2.2.2.1, fun b => if b < k ∧ (sPass κ b).isSome = true ∧ psN κ b < nNight κ then none else sPass κ b, κ.2.2.2.2.2)
abbrev k_dn0 (κ : ll_K) : ll_K := ll_sn (ll_sn κ 9 4 0) 9 3 (nNight κ + 1)
def k_dawn (κ : ll_K) : ll_K := k_dn2 (k_dn1 (k_dn0 κ) 6) (nS κ)
theorem dn1_0 {κ : ll_K} : k_dn1 κ 0 = κ := by
  refine ll_Kext (fun _ _ => rfl) (fun a b => ?_) (fun _ _ => rfl) (fun a b => rfl) (fun _ => rfl) (fun _ => rfl) rfl (fun _ => rfl)
  simp [k_dn1]
theorem dn1_s {κ : ll_K} {k : Nat} : ll_sz (k_dn1 κ k) 3 k 0 = k_dn1 κ (k + 1) := by
  refine ll_Kext (fun _ _ => rfl) (fun a b => ?_) (fun _ _ => rfl) (fun a b => rfl) (fun _ => rfl) (fun _ => rfl) rfl (fun _ => rfl)
  by_cases e : b = k
  · subst e
    by_cases ea : a = 3
    · simp [k_dn1, ll_sz, ea]
    · simp [k_dn1, ll_sz, ea]
  · simp only [k_dn1, ll_sz, ll_lts e, e, and_false, if_false]
theorem dn2_0 {κ : ll_K} : k_dn2 κ 0 = κ := by
  refine ll_Kext (fun _ _ => rfl) (fun a b => rfl) (fun _ _ => rfl) (fun a b => rfl) (fun b => ?_) (fun _ => rfl) rfl (fun _ => rfl)
  simp [k_dn2]
theorem dn2_at {κ : ll_K} {k : Nat} : sPass (k_dn2 κ k) k = sPass κ k := by simp [k_dn2, sPass]
theorem dn2_y {κ : ll_K} {k : Nat} (h1 : (sPass (k_dn2 κ k) k).isSome = true) (h2 : psN (k_dn2 κ k) k < nNight κ) : ll_sp (k_dn2 κ k) k none = k_dn2 κ (k + 1) := by
  rw [dn2_at] at h1
  simp only [psN, dn2_at] at h2
  refine ll_Kext (fun _ _ => rfl) (fun a b => rfl) (fun _ _ => rfl) (fun a b => rfl) (fun b => ?_) (fun _ => rfl) rfl (fun _ => rfl)
  by_cases e : b = k
  · subst e
    have h1' : (κ.2.2.2.2.1 b).isSome = true := h1
    have h2' : ((κ.2.2.2.2.1 b).getD (0, 0, 0)).2.1 < κ.1 9 3 := h2
    simp [k_dn2, ll_sp, h1', h2', sPass, psN, nNight]
  · simp only [k_dn2, ll_sp, ll_lts e, e, if_false]
theorem dn2_n {κ : ll_K} {k : Nat} (h : ¬ ((sPass (k_dn2 κ k) k).isSome = true ∧ psN (k_dn2 κ k) k < nNight κ)) : k_dn2 κ k = k_dn2 κ (k + 1) := by
  simp only [psN, dn2_at] at h
  refine ll_Kext (fun _ _ => rfl) (fun a b => rfl) (fun _ _ => rfl) (fun a b => rfl) (fun b => ?_) (fun _ => rfl) rfl (fun _ => rfl)
  by_cases e : b = k
  · subst e
    have h' : ¬ ((κ.2.2.2.2.1 b).isSome = true ∧ ((κ.2.2.2.2.1 b).getD (0, 0, 0)).2.1 < κ.1 9 3) := h
    simp only [k_dn2, sPass, psN, nNight]
    rw [if_neg (fun w => by omega), if_neg (fun w => h' w.2)]
  · simp only [k_dn2, ll_lts e]
theorem dn2_ps {κ : ll_K} (hI : ll_I κ) {k : Nat} (hk : k < nS κ) (h1 : (sPass (k_dn2 κ k) k).isSome = true) : psN (k_dn2 κ k) k ≤ 99 := by
  rw [dn2_at] at h1
  have := (ps_bd hI hk h1).2.1
  simp only [psN, dn2_at]
  exact this
theorem I_dawn {κ : ll_K} (hI : ll_I κ) (h : nNight κ + 1 ≤ 99) : ll_I (k_dawn κ) := by
  refine ⟨⟨hI.1.1, hI.1.2.1, hI.1.2.2.1, hI.1.2.2.2.1, h, by show 0 < 24; decide⟩, hI.2.1, fun j hj => ?_, hI.2.2.2⟩
  have h1 := hI.2.2.1 j hj
  refine ⟨h1.1, h1.2.1, h1.2.2.1, h1.2.2.2.1, h1.2.2.2.2.1, h1.2.2.2.2.2.1, h1.2.2.2.2.2.2.1, h1.2.2.2.2.2.2.2.1, fun q hq => ?_, h1.2.2.2.2.2.2.2.2.2⟩
  have : sPass (k_dawn κ) j = none ∨ sPass (k_dawn κ) j = sPass κ j := by
    simp only [k_dawn, k_dn2, sPass]
    split
    · exact Or.inl rfl
    · exact Or.inr rfl
  rcases this with e | e
  · rw [e] at hq; cases hq
  · rw [e] at hq; exact h1.2.2.2.2.2.2.2.2.1 q hq
/-- watches, of the first k gates -/
def k_wch (κ : ll_K) (k : Nat) : ll_K := (κ.1, fun a b => if a = 10 ∧ b < k then (if openAt κ b (nI (nHour κ)) then gWatch κ b + 1 else 0) else κ.2.1 a b, κ.2.2)
theorem wch_0 {κ : ll_K} : k_wch κ 0 = κ := by
  refine ll_Kext (fun _ _ => rfl) (fun a b => ?_) (fun _ _ => rfl) (fun a b => rfl) (fun _ => rfl) (fun _ => rfl) rfl (fun _ => rfl)
  simp [k_wch]
theorem wch_at {κ : ll_K} {k : Nat} : gWatch (k_wch κ k) k = gWatch κ k := by simp [k_wch, gWatch]
theorem wch_s {κ : ll_K} {k : Nat} : ll_sz (k_wch κ k) 10 k (if openAt (k_wch κ k) k (nI (nHour (k_wch κ k))) then gWatch (k_wch κ k) k + 1 else 0) = k_wch κ (k + 1) := by
  rw [wch_at]
  refine ll_Kext (fun _ _ => rfl) (fun a b => ?_) (fun _ _ => rfl) (fun a b => rfl) (fun _ => rfl) (fun _ => rfl) rfl (fun _ => rfl)
  by_cases e : b = k
  · subst e
    by_cases ea : a = 10
    · simp [k_wch, ll_sz, ea, gHours, gFrom, nHour]
    · simp [k_wch, ll_sz, ea]
  · simp only [k_wch, ll_sz, ll_lts e, e, and_false, if_false]
abbrev k_hr (κ : ll_K) : ll_K := ll_sn κ 9 4 (nHour κ + 1)
def k_go1 (κ : ll_K) : ll_K := if nHour κ + 1 = 24 then k_dawn (k_hr κ) else k_hr κ
def k_go (κ : ll_K) : ll_K := k_wch (k_spread (k_go1 κ)) (nG κ)
theorem I_go1 {κ : ll_K} (hI : ll_I κ) (h : nHour κ + 1 = 24 → nNight κ + 1 ≤ 99) : ll_I (k_go1 κ) := by
  unfold k_go1
  split
  · next e =>
    have h2 := h e
    refine ⟨⟨hI.1.1, hI.1.2.1, hI.1.2.2.1, hI.1.2.2.2.1, h2, by show 0 < 24; decide⟩, hI.2.1, fun j hj => ?_, hI.2.2.2⟩
    have h1 := hI.2.2.1 j hj
    refine ⟨h1.1, h1.2.1, h1.2.2.1, h1.2.2.2.1, h1.2.2.2.2.1, h1.2.2.2.2.2.1, h1.2.2.2.2.2.2.1, h1.2.2.2.2.2.2.2.1, fun q hq => ?_, h1.2.2.2.2.2.2.2.2.2⟩
    have : sPass (k_dawn (k_hr κ)) j = none ∨ sPass (k_dawn (k_hr κ)) j = sPass κ j := by
      simp only [k_dawn, k_dn2, sPass]
      split
      · exact Or.inl rfl
      · exact Or.inr rfl
    rcases this with e | e
    · rw [e] at hq; cases hq
    · rw [e] at hq; exact h1.2.2.2.2.2.2.2.2.1 q hq
  · next e => exact ⟨⟨hI.1.1, hI.1.2.1, hI.1.2.2.1, hI.1.2.2.2.1, hI.1.2.2.2.2.1, by have := hI.1.2.2.2.2.2; show nHour κ + 1 < 24; omega⟩, hI.2⟩
theorem I_go {κ : ll_K} (hI : ll_I κ) (h : nHour κ + 1 = 24 → nNight κ + 1 ≤ 99) : ll_I (k_go κ) := I_go1 hI h
theorem go1_c {κ : ll_K} : nG (k_go1 κ) = nG κ ∧ nS (k_go1 κ) = nS κ ∧ nP (k_go1 κ) = nP κ ∧ 24 * nNight (k_go1 κ) + nHour (k_go1 κ) = 24 * nNight κ + nHour κ + 1 := by
  unfold k_go1
  split
  · refine ⟨rfl, rfl, rfl, ?_⟩
    show 24 * (nNight κ + 1) + 0 = _
    omega
  · refine ⟨rfl, rfl, rfl, ?_⟩
    show 24 * nNight κ + (nHour κ + 1) = _
    omega
def k_goN (κ : ll_K) : Nat → ll_K
  | 0 => κ
  | i + 1 => k_go (k_goN κ i)
theorem goN_t {κ : ll_K} : ∀ i, 24 * nNight (k_goN κ i) + nHour (k_goN κ i) = 24 * nNight κ + nHour κ + i
  | 0 => rfl
  | i + 1 => by
    have h1 := (go1_c (κ := k_goN κ i)).2.2.2
    have h2 := goN_t (κ := κ) i
    show 24 * nNight (k_go1 (k_goN κ i)) + nHour (k_go1 (k_goN κ i)) = _
    omega
theorem goN_ok {κ : ll_K} {H : Nat} (hI : ll_I κ) (h : nNight κ + (nHour κ + H) / 24 ≤ 99) : ∀ i, i ≤ H → ll_I (k_goN κ i) ∧ (i < H → nHour (k_goN κ i) + 1 = 24 → nNight (k_goN κ i) + 1 ≤ 99)
  | 0, _ => ⟨hI, fun h1 h2 => by have h3 : nHour κ + 1 = 24 := h2; show nNight κ + 1 ≤ 99; omega⟩
  | i + 1, hi => by
    have ih := goN_ok hI h i (by omega)
    refine ⟨I_go ih.1 (ih.2 (by omega)), fun h1 h2 => ?_⟩
    have h3 := goN_t (κ := κ) (i + 1)
    omega
def c_pass (κ : ll_K) (H : Int32) : Nat := if inR H 1 48 then (if ¬ 99 < nNight κ + (nHour κ + tN H) / 24 then 0 else 2) else 1
def k_pass (κ : ll_K) (H : Int32) : ll_K := k_goN κ (tN H)
theorem nI_dec {j : Nat} (h : j + 1 < 2 ^ 31) : nI (j + 1) + (-1) = nI j := by
  apply Int32.toInt_inj.mp
  have e1 : (-1 : Int32).toInt = -1 := by decide
  rw [i_add (by rw [nI_toInt h, e1]; omega) (by rw [nI_toInt h, e1]; omega), nI_toInt h, nI_toInt (by omega), e1]
  omega
theorem inj_up {f : Nat → Nat} {k q : Nat} (h : ∀ i i2, i < k → i2 < k → f i = f i2 → i = i2) (hn : ∀ i, i < k → f i ≠ q) : ∀ i i2, i < k + 1 → i2 < k + 1 → (fun j => if j = k then q else f j) i = (fun j => if j = k then q else f j) i2 → i = i2 := by
  intro i i2 hi hi2 e
  by_cases e1 : i = k
  · by_cases e2 : i2 = k
    · rw [e1, e2]
    · simp only [e1, e2, if_true, if_false] at e
      exact absurd e.symm (hn i2 (by omega))
  · by_cases e2 : i2 = k
    · simp only [e1, e2, if_true, if_false] at e
      exact absurd e (hn i (by omega))
    · simp only [e1, e2, if_false] at e
      exact h i i2 (by omega) (by omega) e
theorem bes_nI {a b c d : Nat} (ha : a < 6) (hb : b < 6) (hc : c < 6) (hd : d < 6) : ((nI a = nI b ∨ nI c = nI b) ∨ (nI a = nI d ∨ nI c = nI d)) ↔ ((a = b ∨ c = b) ∨ (a = d ∨ c = d)) := by
  rw [nI_eq (by omega) (by omega), nI_eq (by omega) (by omega), nI_eq (by omega) (by omega), nI_eq (by omega) (by omega)]
theorem I_dn {κ : ll_K} {x : Nat} (hI : ll_I κ) (h : nNight κ + 1 ≤ 99) : ll_I (k_dn1 (k_dn0 (ll_sn κ 9 4 x)) 6) := ⟨⟨hI.1.1, hI.1.2.1, hI.1.2.2.1, hI.1.2.2.2.1, h, by show 0 < 24; decide⟩, hI.2⟩
