/-! ===== iv: what holds of the state at all times; the functions that both programs compute ===== -/
/-- part p is in the set -/
abbrev ll_has (set : Int32) (p : Nat) : Prop := ((set >>> ((nI p) &&& 31)) &&& 1) = 1
abbrev hS (κ : ll_K) (k : Nat) : Nat := ((hids κ).getD k (0, 0, 0)).1
abbrev hD (κ : ll_K) (k : Nat) : Nat := ((hids κ).getD k (0, 0, 0)).2.1
abbrev hN (κ : ll_K) (k : Nat) : Nat := ((hids κ).getD k (0, 0, 0)).2.2
abbrev qAt (κ : ll_K) (k j : Nat) : Nat := (gQue κ k).getD j 12
abbrev psG (κ : ll_K) (s : Nat) : Nat := ((sPass κ s).getD (0, 0, 0)).1
abbrev psN (κ : ll_K) (s : Nat) : Nat := ((sPass κ s).getD (0, 0, 0)).2.1
abbrev psV (κ : ll_K) (s : Nat) : Nat := ((sPass κ s).getD (0, 0, 0)).2.2
def ll_I (κ : ll_K) : Prop :=
  (nG κ ≤ 8 ∧ nS κ ≤ 12 ∧ nP κ ≤ 24 ∧ (hids κ).length ≤ 40 ∧ nNight κ ≤ 99 ∧ nHour κ < 24) ∧
  (∀ k, k < nG κ → gOne κ k < 6 ∧ gOther κ k < 6 ∧ (gQue κ k).length ≤ 12 ∧ (gQue κ k).Nodup ∧ (∀ s ∈ gQue κ k, s < nS κ ∧ sRest κ s = 1 ∧ sGate κ s = some k ∧ (gOne κ k = sLand κ s ∨ gOther κ k = sLand κ s)) ∧ (∀ j, j + 1 < (gQue κ k).length → sBaby κ (qAt κ k (j + 1)) = true → sBaby κ (qAt κ k j) = true)) ∧
  (∀ s, s < nS κ → sLand κ s < 6 ∧ sRest κ s < 3 ∧ (∀ g, sGate κ s = some g → g < nG κ) ∧ (sRest κ s = 1 → ∃ g, sGate κ s = some g ∧ g < nG κ ∧ s ∈ gQue κ g) ∧ (sRest κ s ≠ 1 → sGate κ s = none) ∧ (0 ≤ sPat κ s ∧ sPat κ s ≤ 9) ∧ (sRest κ s = 2 → ∀ p, p < nP κ → pHead κ p ≠ some s) ∧ (sRest κ s ≠ 2 → 0 < sPat κ s) ∧ (∀ q, sPass κ s = some q → q.1 < nG κ ∧ q.2.1 ≤ 99 ∧ q.2.2 < 97) ∧ (sRest κ s = 1 → ∀ p, p < 31 → ll_has (sDecl κ s) p → p < nP κ ∧ pHead κ p = some s)) ∧
  (∀ p, p < nP κ → (∀ j, pHead κ p = some j → j < nS κ) ∧ (∀ l, pStore κ p = some l → l < 6 ∧ pHead κ p = none) ∧ (∀ j, pBy κ p = some j → j < nS κ) ∧ pFate κ p < 6 ∧ pDream κ p < 8 ∧ (0 ≤ pWorth κ p ∧ pWorth κ p ≤ 99) ∧ (pFate κ p = 3 → pBy κ p ≠ none)) ∧
  (∀ k, k < (hids κ).length → hS κ k < nS κ ∧ hD κ k < 8 ∧ hN κ k ≤ 99) ∧
  (∀ k, k < 6 → (0 ≤ lRate κ k ∧ lRate κ k ≤ 50) ∧ (0 ≤ lAll κ k ∧ lAll κ k ≤ 99) ∧ (0 ≤ lQuo κ k ∧ lQuo κ k ≤ 30)) ∧
  lQuo κ 0 + lQuo κ 1 + lQuo κ 2 + lQuo κ 3 + lQuo κ 4 + lQuo κ 5 = 30
theorem qAt_mem {κ : ll_K} {k j : Nat} (h : j < (gQue κ k).length) : qAt κ k j ∈ gQue κ k := by
  show (gQue κ k).getD j 12 ∈ gQue κ k
  rw [List.getD_eq_getElem?_getD, List.getElem?_eq_getElem h]
  exact List.getElem_mem h
theorem w_passI {G : jd_G} {β : ll_B} {κ : ll_K} {h : jd_H} (hw : WC G β κ h) {k : Nat} (hk : k < nS κ) (hp : (sPass κ k).isSome = true) : h (0, β 6 k) = some (β 6 k, .inl (.inr (17, [.ref (β 7 k)]))) ∧ h (0, β 7 k) = some (β 7 k, .inl (.inr (6, [.int (nI (psG κ k)), .int (nI (psN κ k)), .int (nI (psV κ k))]))) := by
  cases e : sPass κ k with
  | none => rw [e] at hp; cases hp
  | some q =>
    have := w_pass hw k hk q e
    simp only [psG, psN, psV, e, Option.getD_some]
    exact this
theorem w_rvO {G : jd_G} {β : ll_B} {κ : ll_K} {h : jd_H} (hw : WC G β κ h) {k : Nat} (hk : k < nS κ) : jd_Rv G h "java/util/Optional" (β 6 k) := by
  cases e : sPass κ k with
  | none => rw [w_passN hw k hk e]; exact jd_rvE
  | some q => exact jd_rv (w_pass hw k hk q e).1 17 rfl rfl
theorem ct_pres {G : jd_G} {β : ll_B} {κ : ll_K} {h : jd_H} (hw : WC G β κ h) {k : Nat} (hk : k < nS κ) : jd_Ct G mJ17_isPresent 0 0 0 [.ref (β 6 k)] h (jd_pu h (.int (jd_b ((sPass κ k).isSome = true)))) jd_no := by
  cases e : sPass κ k with
  | none => rw [w_passN hw k hk e]; exact ct_J17_isPresentE
  | some q => exact ct_J17_isPresent (w_pass hw k hk q e).1
/-- a sum over the first n -/
def ll_sum (f : Nat → Int32) : Nat → Int32
  | 0 => 0
  | n + 1 => ll_sum f n + f n
/-- a set of the first n -/
def ll_set (P : Nat → Prop) [DecidablePred P] : Nat → Int32
  | 0 => 0
  | n + 1 => ll_set P n ||| (if P n then 1 <<< ((nI n) &&& 31) else 0)
def headOf (κ : ll_K) (s : Nat) : Int32 := ll_set (fun p => pHead κ p = some s) (nP κ)
def worthOf (κ : ll_K) (set : Int32) : Int32 := ll_sum (fun p => if ll_has set p then pWorth κ p else 0) (nP κ)
section TB
variable {G : jd_G} {M : jd_M} {d cb sb pc : Nat} {ls : List (Option Value)} {st : List Value} {h : jd_H} {Q : Option Value → jd_H → Prop} {X : String → jd_H → Prop}
theorem jd_tabN {dflt hi : Int} {offs : Array Int} {len w j : Nat} {off : Int} {tgt : Nat} (dc : decode M.2.2.1 pc = .ok (.tableswitch dflt 0 hi offs, len)) (e : w = j) (hj : j < 2 ^ 31) (h0 : ¬ (j : Int) < 0) (h1 : ¬ hi < (j : Int)) (ho : offs[j]? = some off) (ht : (pc : Int) + off = (tgt : Int)) (k : jd_W G M d cb sb tgt ls st h Q X) : jd_W G M d cb sb pc ls (.int (nI w) :: st) h Q X := by
  subst e
  have hx := nI_toInt hj
  refine jd_tableIn dc (by rw [hx]; exact h0) (by rw [hx]; exact h1) (off := off) ?_ ht k
  rw [hx]
  have : ((w : Int) - 0).toNat = w := by omega
  rw [this]; exact ho
theorem jd_tabD {dflt hi : Int} {offs : Array Int} {len w j : Nat} {tgt : Nat} (dc : decode M.2.2.1 pc = .ok (.tableswitch dflt 0 hi offs, len)) (e : w = j) (hj : j < 2 ^ 31) (h1 : hi < (j : Int)) (ht : (pc : Int) + dflt = (tgt : Int)) (k : jd_W G M d cb sb tgt ls st h Q X) : jd_W G M d cb sb pc ls (.int (nI w) :: st) h Q X := by
  subst e
  have hx := nI_toInt hj
  exact jd_tableOut dc (Or.inr (by rw [hx]; exact h1)) ht k
end TB
/-- how many of the first n -/
abbrev ll_cnt (P : Nat → Prop) [DecidablePred P] (n : Nat) : Int32 := ll_sum (fun p => jd_b (P p)) n
/-- the first place -/
def ll_find (P : Nat → Prop) [DecidablePred P] (n : Nat) : Option Nat := (List.range n).find? (fun k => decide (P k))
theorem ll_find_none {P : Nat → Prop} [DecidablePred P] {n : Nat} (h : ∀ i, i < n → ¬ P i) : ll_find P n = none := by
  simp only [ll_find, List.find?_eq_none, List.mem_range, decide_eq_true_eq]
  exact h
theorem ll_find_some {P : Nat → Prop} [DecidablePred P] {n k : Nat} (hk : k < n) (hp : P k) (h : ∀ i, i < k → ¬ P i) : ll_find P n = some k := by
  simp only [ll_find]
  cases e : (List.range n).find? (fun k => decide (P k)) with
  | none =>
    rw [List.find?_eq_none] at e
    exact absurd hp (by simpa using e k (List.mem_range.mpr hk))
  | some j =>
    have h1 := List.find?_some e
    have h2 : j < n := List.mem_range.mp (List.mem_of_find?_eq_some e)
    have h3 := (List.find?_eq_some_iff_getElem.mp e).2
    obtain ⟨i, hi, hij, hlt⟩ := h3
    simp only [List.getElem_range] at hij hlt
    subst hij
    have h4 : ¬ i < k := fun w => h i w (by simpa using h1)
    have h5 : ¬ k < i := fun w => absurd hp (by simpa using hlt k w)
    rw [Nat.le_antisymm (Nat.not_lt.mp h5) (Nat.not_lt.mp h4)]
theorem ll_find_lt {P : Nat → Prop} [DecidablePred P] {n k : Nat} (h : ll_find P n = some k) : k < n := List.mem_range.mp (List.mem_of_find?_eq_some h)
theorem ll_find_P {P : Nat → Prop} [DecidablePred P] {n k : Nat} (h : ll_find P n = some k) : P k := by
  have h1 := List.find?_some h
  simpa using h1
/-! the spec of what is read -/
def ll_land (κ : ll_K) (p : Nat) : Option Nat := match pStore κ p with
  | some l => some l
  | none => match pHead κ p with
    | some s => some (sLand κ s)
    | none => none
def hidingsOf (κ : ll_K) (s : Nat) : Int32 := ll_cnt (fun k => hS κ k = s) (hids κ).length
def storeOf (κ : ll_K) (l : Nat) : Int32 := ll_cnt (fun k => pStore κ k = some l) (nP κ)
def sleepersIn (κ : ll_K) (l : Nat) : Int32 := ll_cnt (fun k => (sLand κ k = l) ∧ (¬ (sRest κ k = 2))) (nS κ)
def awakeN (κ : ll_K) : Int32 := ll_cnt (fun k => sRest κ k = 2) (nS κ)
def goneN (κ : ll_K) : Int32 := ll_cnt (fun k => (oI (pHead κ k) = -1) ∧ (oI (pStore κ k) = -1)) (nP κ)
def withFate (κ : ll_K) (f : Nat) : Int32 := ll_cnt (fun k => pFate κ k = f) (nP κ)
def dutiesN (κ : ll_K) : Int32 := ll_sum (fun k => lDut κ k) 6
def finesN (κ : ll_K) : Int32 := ll_sum (fun k => lFin κ k) 6
def manyV (κ : ll_K) (g : Nat) : Int32 := ll_cnt (fun v => gRev κ g v = true) 97
def placeOf (κ : ll_K) (g s : Nat) : Option Nat := ll_find (fun j => qAt κ g j = s) (gQue κ g).length
/-- nightmares and the set of those that come in, of the first n declared -/
def ll_al (κ : ll_K) (D q c : Int32) : Nat → Int32 × Int32
  | 0 => (c, 0)
  | k + 1 =>
    ((ll_al κ D q c k).1 + jd_b ((ll_has D k ∧ ¬ pDread κ k < 5) ∧ (ll_has D k ∧ (¬ (ll_has D k ∧ ¬ pDread κ k < 5) ∨ ¬ (q ≤ (ll_al κ D q c k).1)))),
     (ll_al κ D q c k).2 ||| (if ll_has D k ∧ (¬ (ll_has D k ∧ ¬ pDread κ k < 5) ∨ ¬ (q ≤ (ll_al κ D q c k).1)) then 1 <<< ((nI k) &&& 31) else 0))
def allowed (κ : ll_K) (D : Int32) (l : Nat) : Int32 := (ll_al κ D (lQuo κ l) (lNight κ l) (nP κ)).2
def hiddenWorth (κ : ll_K) (g : Nat) : Int32 := ll_sum (fun j => worthOf κ (headOf κ (qAt κ g j) &&& (sDecl κ (qAt κ g j) ^^^ (-1)))) (gQue κ g).length
def wholeAll (κ : ll_K) (d : Nat) : Int32 := ll_cnt (fun p => pDream κ p = d) (nP κ)
def wholeHere (κ : ll_K) (l d : Nat) : Int32 := ll_cnt (fun p => (pDream κ p = d) ∧ (ll_land κ p = some l)) (nP κ)
def whole (κ : ll_K) (l : Nat) : Int32 := ll_set (fun d => 0 < wholeAll κ d ∧ wholeAll κ d = wholeHere κ l d) 8
def rightI (s g n : Nat) : Int32 := jd_rem (nI (13 * s + 29 * g + 7 * n)) 97
def dutyOf (κ : ll_K) (l : Nat) (w : Int32) : Int32 := if lAll κ l < w then (((w - lAll κ l) * lRate κ l) / 100) else 0
abbrev openAt (κ : ll_K) (g : Nat) (hour : Int32) : Prop := ¬ (gHours κ g ≤ jd_rem ((hour - gFrom κ g) + 24) 24)
def acrossN (κ : ll_K) (g l : Nat) : Nat := if l = gOne κ g then gOther κ g else gOne κ g
theorem ps_bd {κ : ll_K} (hI : ll_I κ) {s : Nat} (hs : s < nS κ) (hp : (sPass κ s).isSome = true) : psG κ s < nG κ ∧ psN κ s ≤ 99 ∧ psV κ s < 97 := by
  cases e : sPass κ s with
  | none => rw [e] at hp; cases hp
  | some q =>
    have := (hI.2.2.1 s hs).2.2.2.2.2.2.2.2.1 q e
    simp only [psG, psN, psV, e, Option.getD_some]
    exact this
theorem q_lt {κ : ll_K} (hI : ll_I κ) {g j : Nat} (hg : g < nG κ) (hj : j < (gQue κ g).length) : qAt κ g j < nS κ := ((hI.2.1 g hg).2.2.2.2.1 _ (qAt_mem hj)).1
/-- how far a pass is from the right verse -/
def farI (κ : ll_K) (s g : Nat) : Int32 := nI (psV κ s) - jd_rem (((13 * nI s) + (29 * nI g)) + (7 * nI (nNight κ))) 97
def absI (x : Int32) : Int32 := if 0 ≤ x then x else 0 - x
abbrev goodNow (κ : ll_K) (s g : Nat) : Prop := (sPass κ s).isSome = true ∧ psG κ s = g ∧ psN κ s = nNight κ ∧ ((¬ gWatch κ g < 5 ∧ ¬ 1 < absI (farI κ s g)) ∨ (¬ ¬ gWatch κ g < 5 ∧ absI (farI κ s g) = 0 ∧ ¬ gRev κ g (psV κ s) = true))
def partVal (κ : ll_K) (p : Nat) : Nat → Int32
  | 0 => nI (pDream κ p)
  | 1 => pWorth κ p
  | 2 => pDread κ p
  | 3 => nI (pFate κ p)
  | 4 => oI (ll_land κ p)
  | _ => oI (pHead κ p)
def landVal (κ : ll_K) (l : Nat) : Nat → Int32
  | 0 => lRate κ l
  | 1 => lAll κ l
  | 2 => lQuo κ l
  | 3 => lNight κ l
  | 4 => lDut κ l
  | 5 => lFin κ l
  | 6 => storeOf κ l
  | 7 => sleepersIn κ l
  | _ => whole κ l
def gateVal (κ : ll_K) (g : Nat) : Nat → Int32
  | 0 => nI (gOne κ g)
  | 1 => nI (gOther κ g)
  | 2 => jd_b (openAt κ g (nI (nHour κ)))
  | 3 => gOdds κ g
  | 4 => gWatch κ g
  | 5 => jd_b (¬ gWatch κ g < 5)
  | 6 => nI (gQue κ g).length
  | 7 => if (gQue κ g).length = 0 then -1 else nI (qAt κ g 0)
  | 8 => hiddenWorth κ g
  | _ => manyV κ g
def nightVal (κ : ll_K) : Nat → Int32
  | 0 => nI (nNight κ)
  | 1 => nI (nHour κ)
  | 2 => nI (nG κ)
  | 3 => nI (nS κ)
  | 4 => awakeN κ
  | 5 => nI (nP κ)
  | 6 => withFate κ 1
  | 7 => withFate κ 2
  | 8 => withFate κ 3
  | 9 => withFate κ 4
  | 10 => withFate κ 5
  | 11 => goneN κ
  | 12 => nI (hids κ).length
  | 13 => rDrawn κ
  | 14 => yawns κ
  | 15 => dutiesN κ
  | _ => finesN κ
theorem ll_land_lt {κ : ll_K} (hI : ll_I κ) {p : Nat} (hp : p < nP κ) {j : Nat} (h : ll_land κ p = some j) : j < 6 := by
  unfold ll_land at h
  have hp1 := hI.2.2.2.1 p hp
  cases e : pStore κ p with
  | some l => rw [e] at h; injection h with h; subst h; exact (hp1.2.1 l e).1
  | none =>
    rw [e] at h
    cases e2 : pHead κ p with
    | none => rw [e2] at h; cases h
    | some s =>
      rw [e2] at h; injection h with h; subst h
      exact (hI.2.2.1 s (hp1.1 s e2)).1
theorem whole_if {a b x : Int32} : (if a ≤ 0 then (0 : Int32) else if a = b then x else 0) = if 0 < a ∧ a = b then x else 0 := by
  by_cases h : a ≤ 0
  · rw [if_pos h, if_neg (fun w => (Int32.not_lt.mpr h) w.1)]
  · rw [if_neg h]
    by_cases h2 : a = b
    · rw [if_pos h2, if_pos ⟨Int32.not_le.mp h, h2⟩]
    · rw [if_neg h2, if_neg (fun w => h2 w.2)]
