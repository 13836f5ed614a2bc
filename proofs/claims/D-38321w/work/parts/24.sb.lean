/-! ===== sb: sets of numbers in an int ===== -/
abbrev ll_bt (x : Int32) (k : Nat) : Bool := x.toBitVec.getLsbD k
theorem ll_shk : ∀ p, p < 32 → ((nI p) &&& 31).toBitVec.smod 32 = BitVec.ofNat 32 p := by decide +kernel
theorem ll_oneb : ∀ k, k < 32 → ∀ i, i < 32 → ((1 : Int32) <<< ((nI k) &&& 31)).toBitVec.getLsbD i = decide (i = k) := by decide +kernel
theorem ll_and1 (y : Int32) : (y &&& 1) = 1 ↔ ll_bt y 0 = true := by
  rw [← Int32.toBitVec_inj, Int32.toBitVec_and]
  have h1 : (1 : Int32).toBitVec = 1#32 := rfl
  rw [h1, BitVec.and_one_eq_setWidth_ofBool_getLsbD]
  show BitVec.setWidth 32 (BitVec.ofBool (ll_bt y 0)) = 1#32 ↔ _
  cases ll_bt y 0 <;> decide
theorem ll_hasb {x : Int32} {p : Nat} (hp : p < 32) : ll_has x p ↔ ll_bt x p = true := by
  rw [ll_has, ll_and1]
  have e : (x >>> ((nI p) &&& 31)).toBitVec = x.toBitVec.sshiftRight p := by
    rw [Int32.toBitVec_shiftRight, ll_shk p hp]
    show x.toBitVec.sshiftRight (BitVec.ofNat 32 p).toNat = _
    rw [BitVec.toNat_ofNat, Nat.mod_eq_of_lt (by omega)]
  rw [ll_bt, e, BitVec.getLsbD_sshiftRight]
  simp [hp]
theorem ll_btor (x y : Int32) (k : Nat) : ll_bt (x ||| y) k = (ll_bt x k || ll_bt y k) := by
  rw [ll_bt, Int32.toBitVec_or, BitVec.getLsbD_or]
theorem ll_btand (x y : Int32) (k : Nat) : ll_bt (x &&& y) k = (ll_bt x k && ll_bt y k) := by
  rw [ll_bt, Int32.toBitVec_and, BitVec.getLsbD_and]
theorem ll_bt0 (k : Nat) : ll_bt 0 k = false := by
  show (0#32).getLsbD k = false
  simp
theorem ll_ext {x y : Int32} (h : ∀ k, k < 32 → ll_bt x k = ll_bt y k) : x = y := by
  rw [← Int32.toBitVec_inj]
  exact BitVec.eq_of_getLsbD_eq h
theorem ll_setb (P : Nat → Prop) [DecidablePred P] {n : Nat} (hn : n ≤ 32) {k : Nat} (hk : k < 32) : ll_bt (ll_set P n) k = decide (k < n ∧ P k) := by
  induction n with
  | zero => rw [ll_set, ll_bt0]; simp
  | succ n ih =>
    rw [ll_set, ll_btor, ih (by omega)]
    by_cases hp : P n
    · rw [if_pos hp, show ll_bt ((1 : Int32) <<< ((nI n) &&& 31)) k = decide (k = n) from ll_oneb n (by omega) k hk]
      by_cases e : k = n
      · subst e; simp [hp]
      · have : (k < n + 1 ∧ P k) ↔ (k < n ∧ P k) := ⟨fun w => ⟨by omega, w.2⟩, fun w => ⟨by omega, w.2⟩⟩
        simp [e, this]
    · rw [if_neg hp, ll_bt0]
      have : (k < n + 1 ∧ P k) ↔ (k < n ∧ P k) := ⟨fun w => ⟨by
        by_cases e : k = n
        · subst e; exact absurd w.2 hp
        · omega, w.2⟩, fun w => ⟨by omega, w.2⟩⟩
      simp [this]
theorem ll_hasSet {P : Nat → Prop} [DecidablePred P] {n : Nat} (hn : n ≤ 32) {k : Nat} (hk : k < 32) : ll_has (ll_set P n) k ↔ (k < n ∧ P k) := by
  rw [ll_hasb hk, ll_setb P hn hk]; simp
/-- a set of the first twelve, of truth values -/
def ll_sB (T : Nat → Bool) : Int32 := ll_set (fun x => T x = true) 12
theorem ll_sB_has {T : Nat → Bool} {k : Nat} (hk : k < 12) : ll_has (ll_sB T) k ↔ T k = true := by
  rw [ll_sB, ll_hasSet (by decide) (by omega)]; exact ⟨fun w => w.2, fun w => ⟨hk, w⟩⟩
theorem ll_sB_eq {T T' : Nat → Bool} : ll_sB T = ll_sB T' ↔ ∀ k, k < 12 → T k = T' k := by
  constructor
  · intro e k hk
    have h1 := ll_sB_has (T := T) hk
    rw [e, ll_sB_has hk] at h1
    cases h2 : T k <;> cases h3 : T' k <;> simp_all
  · intro h
    apply ll_ext
    intro k hk
    rw [ll_sB, ll_sB, ll_setb _ (by decide) hk, ll_setb _ (by decide) hk]
    by_cases e : k < 12
    · rw [h k e]
    · simp [e]
def ll_ub (T : Nat → Bool) (k : Nat) : Nat → Bool := fun x => if x = k then true else T x
theorem ll_sB_or {T : Nat → Bool} {k : Nat} (hk : k < 12) : (ll_sB T ||| (1 <<< ((nI k) &&& 31))) = ll_sB (ll_ub T k) := by
  apply ll_ext
  intro i hi
  rw [ll_btor, ll_sB, ll_sB, ll_setb _ (by decide) hi, ll_setb _ (by decide) hi, show ll_bt ((1 : Int32) <<< ((nI k) &&& 31)) i = decide (i = k) from ll_oneb k (by omega) i hi]
  by_cases e : i = k
  · subst e; simp [ll_ub, hk]
  · simp [ll_ub, e]
theorem ll_sB_one {k : Nat} (hk : k < 12) : ((1 : Int32) <<< ((nI k) &&& 31)) = ll_sB (fun x => decide (x = k)) := by
  apply ll_ext
  intro i hi
  rw [ll_sB, ll_setb _ (by decide) hi, show ll_bt ((1 : Int32) <<< ((nI k) &&& 31)) i = decide (i = k) from ll_oneb k (by omega) i hi]
  by_cases e : i = k
  · subst e; simp [hk]
  · simp [e]
theorem ll_sB_zero : (0 : Int32) = ll_sB (fun _ => false) := by decide
/-- how many of the first n are not in it -/
def ll_mi (T : Nat → Bool) : Nat → Nat
  | 0 => 0
  | n + 1 => ll_mi T n + (if T n = true then 0 else 1)
theorem ll_mi_le {T T' : Nat → Bool} (h : ∀ k, T k = true → T' k = true) (n : Nat) : ll_mi T' n ≤ ll_mi T n := by
  induction n with
  | zero => exact Nat.le_refl _
  | succ n ih =>
    simp only [ll_mi]
    by_cases e : T n = true
    · rw [if_pos e, if_pos (h n e)]; omega
    · rw [if_neg e]; split <;> omega
theorem ll_mi_lt {T T' : Nat → Bool} (h : ∀ k, T k = true → T' k = true) {n k : Nat} (hk : k < n) (h1 : T k ≠ true) (h2 : T' k = true) : ll_mi T' n < ll_mi T n := by
  induction n with
  | zero => omega
  | succ n ih =>
    simp only [ll_mi]
    by_cases e : k = n
    · subst e
      rw [if_neg h1, if_pos h2]
      have := ll_mi_le h k; omega
    · have := ih (by omega)
      by_cases e2 : T n = true
      · rw [if_pos e2, if_pos (h n e2)]; omega
      · rw [if_neg e2]; split <;> omega
theorem ll_mi_le12 (T : Nat → Bool) (n : Nat) : ll_mi T n ≤ n := by
  induction n with
  | zero => exact Nat.le_refl _
  | succ n ih => simp only [ll_mi]; split <;> omega
/-- two hidings are of one dream, at nearly the same time -/
abbrev hidFit (κ : ll_K) (i j : Nat) : Prop := hD κ i = hD κ j ∧ ¬ 2 < absI (nI (hN κ i) - nI (hN κ j))
abbrev linkAt (κ : ll_K) (a b i j : Nat) : Prop := hS κ i = a ∧ hS κ j = b ∧ hidFit κ i j
def linked (κ : ll_K) (a b : Nat) : Bool := (List.range (hids κ).length).any fun i => (List.range (hids κ).length).any fun j => decide (linkAt κ a b i j)
theorem linked_iff {κ : ll_K} {a b : Nat} : linked κ a b = true ↔ ∃ i, i < (hids κ).length ∧ ∃ j, j < (hids κ).length ∧ linkAt κ a b i j := by
  simp only [linked, List.any_eq_true, List.mem_range, decide_eq_true_eq]
/-- who can be come to from one, link by link -/
def Reach (κ : ll_K) (s x : Nat) : Prop := ∀ P : Nat → Prop, P s → (∀ a b, P a → b < nS κ → linked κ a b = true → P b) → P x
theorem Reach.one {κ : ll_K} {s : Nat} : Reach κ s s := fun _ h _ => h
theorem Reach.link {κ : ll_K} {s a b : Nat} (h : Reach κ s a) (hb : b < nS κ) (l : linked κ a b = true) : Reach κ s b := fun P h1 h2 => h2 a b (h P h1 h2) hb l
noncomputable def ringN (κ : ll_K) (s : Nat) : Int32 := ll_sB (fun x => @decide (Reach κ s x) (Classical.propDecidable _))
theorem ring_is {κ : ll_K} {s : Nat} {T : Nat → Bool} (h1 : T s = true) (h2 : ∀ x, T x = true → Reach κ s x) (h3 : ∀ a b, a < nS κ → b < nS κ → T a = true → linked κ a b = true → T b = true) (hs : s < nS κ) : ll_sB T = ringN κ s := by
  have hr : ∀ x, Reach κ s x → x < nS κ ∧ T x = true := fun x hx => hx (fun x => x < nS κ ∧ T x = true) ⟨hs, h1⟩ (fun a b ha hb l => ⟨hb, h3 a b ha.1 hb ha.2 l⟩)
  rw [ringN, ll_sB_eq]
  intro k hk
  cases e : T k with
  | true => exact (@decide_eq_true _ (Classical.propDecidable _) (h2 k e)).symm
  | false => exact (@decide_eq_false _ (Classical.propDecidable _) (fun w => by rw [(hr k w).2] at e; cases e)).symm
noncomputable def sleeperVal (κ : ll_K) (s : Nat) : Nat → Int32
  | 0 => nI (sLand κ s)
  | 1 => sPat κ s
  | 2 => nI (sRest κ s)
  | 3 => oI (sGate κ s)
  | 4 => match sGate κ s with
    | some g => oI (placeOf κ g s)
    | none => -1
  | 5 => headOf κ s
  | 6 => if (sPass κ s).isSome = true then nI (psV κ s) else -1
  | 7 => ringN κ s
  | _ => hidingsOf κ s
theorem across_lt {κ : ll_K} (hI : ll_I κ) {g l : Nat} (hg : g < nG κ) : acrossN κ g l < 6 := by
  unfold acrossN
  split
  · exact (hI.2.1 g hg).2.1
  · exact (hI.2.1 g hg).1
theorem across_eq {κ : ll_K} (hI : ll_I κ) {g l : Nat} (hg : g < nG κ) (hl : l < 6) : (if nI l = nI (gOne κ g) then nI (gOther κ g) else nI (gOne κ g)) = nI (acrossN κ g l) := by
  have h1 := (hI.2.1 g hg).1
  unfold acrossN
  by_cases e : l = gOne κ g
  · rw [if_pos e, if_pos (by rw [e])]
  · rw [if_neg e, if_neg (fun w => e ((nI_eq (by omega) (by omega)).mp w))]
def wouldPay (κ : ll_K) (g : Nat) : Int32 :=
  if (gQue κ g).length = 0 ∨ ¬ goodNow κ (qAt κ g 0) g then 0
  else dutyOf κ (acrossN κ g (sLand κ (qAt κ g 0))) (worthOf κ (allowed κ (sDecl κ (qAt κ g 0)) (acrossN κ g (sLand κ (qAt κ g 0)))))
theorem ct_acr {G : jd_G} {β : ll_B} {κ : ll_K} {h : jd_H} (hw : WC G β κ h) (hI : ll_I κ) {g l : Nat} (hg : g < nG κ) (hl : l < 6) : jd_Ct G mX7_across 0 0 0 [.ref (β 2 g), .int (nI l)] h (jd_pu h (.int (nI (acrossN κ g l)))) jd_no := by
  have := ct_X7_across (G := G) (w_gate hw g hg) (nI l)
  rw [across_eq hI hg hl] at this
  exact this
theorem qAt_eq {κ : ll_K} {g j : Nat} (hj : j < (gQue κ g).length) : qAt κ g j = (gQue κ g)[j] := by
  show (gQue κ g).getD j 12 = _
  rw [List.getD_eq_getElem?_getD, List.getElem?_eq_getElem hj]; rfl
theorem qAt_inj {κ : ll_K} (hI : ll_I κ) {g i j : Nat} (hg : g < nG κ) (hi : i < (gQue κ g).length) (hj : j < (gQue κ g).length) (e : qAt κ g i = qAt κ g j) : i = j := by
  rw [qAt_eq hi, qAt_eq hj] at e
  have hn := List.pairwise_iff_getElem.mp (hI.2.1 g hg).2.2.2.1
  rcases Nat.lt_trichotomy i j with w | w | w
  · exact absurd e (hn i j hi hj w)
  · exact w
  · exact absurd e.symm (hn j i hj hi w)
theorem place_at {κ : ll_K} (hI : ll_I κ) {g k : Nat} (hg : g < nG κ) (hk : k < (gQue κ g).length) : placeOf κ g (qAt κ g k) = some k :=
  ll_find_some hk rfl (fun i hi e => by have := qAt_inj hI hg (by omega) hk e; omega)
theorem place_none {κ : ll_K} {g s : Nat} (h : s ∉ gQue κ g) : placeOf κ g s = none :=
  ll_find_none (fun i hi e => h (e ▸ qAt_mem hi))
theorem head_awake {κ : ll_K} (hI : ll_I κ) {s : Nat} (hs : s < nS κ) (h : sRest κ s = 2) : headOf κ s = 0 := by
  have h1 := (hI.2.2.1 s hs).2.2.2.2.2.2.1 h
  apply ll_ext
  intro k hk
  rw [headOf, ll_setb _ (by have := hI.1.2.2.1; omega) hk, ll_bt0]
  exact decide_eq_false (fun w => h1 k w.1 w.2)
theorem q_baby {κ : ll_K} (hI : ll_I κ) {g k : Nat} (hg : g < nG κ) (hk : k < (gQue κ g).length) (h0 : ¬ k = 0) (hb : sBaby κ (qAt κ g k) = true) : sBaby κ (qAt κ g (k - 1)) = true := by
  have e : k - 1 + 1 = k := by omega
  exact (hI.2.1 g hg).2.2.2.2.2 (k - 1) (by omega) (by rw [e]; exact hb)
theorem quo_sum {κ : ll_K} (hI : ll_I κ) : ll_sum (fun p => lQuo κ p) 6 = 30 := by
  have := hI.2.2.2.2.2.2
  simp only [ll_sum, Int32.zero_add]
  exact this
theorem and_b1 {P : Prop} [Decidable P] (h : P) : (1 : Int32) &&& jd_b P = 1 := by rw [jd_b1 h]; decide
theorem snd_or {κ : ll_K} (hI : ll_I κ) {s : Nat} (hs : s < nS κ) : ¬ sRest κ s = 2 ∨ headOf κ s = 0 := by
  by_cases e : sRest κ s = 2
  · exact Or.inr (head_awake hI hs e)
  · exact Or.inl e
