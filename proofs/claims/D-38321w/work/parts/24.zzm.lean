/-! ===== zzm: what the model reads ===== -/
theorem at_cases {κ : ll_K} (hI : ll_I κ) {p : Nat} (hp : p < nP κ) : (∃ j, pHead κ p = some j ∧ pStore κ p = none ∧ j < nS κ ∧ pAt κ p = j) ∨ (∃ l, pHead κ p = none ∧ pStore κ p = some l ∧ l < 6 ∧ pAt κ p = 100 + l) ∨ (pHead κ p = none ∧ pStore κ p = none ∧ pAt κ p = 999) := by
  have h1 := hI.2.2.2.1 p hp
  cases e : pHead κ p with
  | some j =>
    refine Or.inl ⟨j, rfl, ?_, h1.1 j e, by simp only [pAt, e, atN]⟩
    cases e2 : pStore κ p with
    | none => rfl
    | some l => have := (h1.2.1 l e2).2; rw [e] at this; cases this
  | none =>
    cases e2 : pStore κ p with
    | none => exact Or.inr (Or.inr ⟨rfl, rfl, by simp only [pAt, e, e2, atN]⟩)
    | some l => exact Or.inr (Or.inl ⟨l, rfl, rfl, (h1.2.1 l e2).1, by simp only [pAt, e, e2, atN]⟩)
theorem at_bd {κ : ll_K} (hI : ll_I κ) {p : Nat} (hp : p < nP κ) : pAt κ p ≤ 999 := by
  have := hI.1.2.1
  rcases at_cases hI hp with ⟨j, -, -, h, e⟩ | ⟨l, -, -, h, e⟩ | ⟨-, -, e⟩ <;> omega
theorem at_head {κ : ll_K} (hI : ll_I κ) {p s : Nat} (hp : p < nP κ) (hs : s < 100) : pAt κ p = s ↔ pHead κ p = some s := by
  have := hI.1.2.1
  rcases at_cases hI hp with ⟨j, h1, h2, h, e⟩ | ⟨l, h1, h2, h, e⟩ | ⟨h1, h2, e⟩
  · rw [e, h1]; exact ⟨fun w => by rw [w], fun w => Option.some.inj w⟩
  · rw [e, h1]; exact ⟨fun w => by omega, fun w => by cases w⟩
  · rw [e, h1]; exact ⟨fun w => by omega, fun w => by cases w⟩
theorem at_store {κ : ll_K} (hI : ll_I κ) {p l : Nat} (hp : p < nP κ) (hl : l < 6) : pAt κ p = 100 + l ↔ pStore κ p = some l := by
  have := hI.1.2.1
  rcases at_cases hI hp with ⟨j, h1, h2, h, e⟩ | ⟨l, h1, h2, h, e⟩ | ⟨h1, h2, e⟩
  · rw [e, h2]; exact ⟨fun w => by omega, fun w => by cases w⟩
  · rw [e, h2]; exact ⟨fun w => congrArg some (by omega), fun w => by rw [Option.some.inj w]⟩
  · rw [e, h2]; exact ⟨fun w => by omega, fun w => by cases w⟩
theorem at_gone {κ : ll_K} (hI : ll_I κ) {p : Nat} (hp : p < nP κ) : pAt κ p = 999 ↔ pHead κ p = none ∧ pStore κ p = none := by
  have := hI.1.2.1
  rcases at_cases hI hp with ⟨j, h1, h2, h, e⟩ | ⟨l, h1, h2, h, e⟩ | ⟨h1, h2, e⟩
  · rw [e, h1]; exact ⟨fun w => by omega, fun w => by cases w.1⟩
  · rw [e, h2]; exact ⟨fun w => by omega, fun w => by cases w.2⟩
  · rw [e]; exact ⟨fun _ => ⟨h1, h2⟩, fun _ => rfl⟩
theorem ll_set_congr {P Q : Nat → Prop} [DecidablePred P] [DecidablePred Q] {n : Nat} (h : ∀ p, p < n → (P p ↔ Q p)) : ll_set P n = ll_set Q n := by
  induction n with
  | zero => rfl
  | succ n ih =>
    rw [ll_set, ll_set, ih (fun p hp => h p (by omega))]
    by_cases e : P n
    · rw [if_pos e, if_pos ((h n (by omega)).mp e)]
    · rw [if_neg e, if_neg (fun w => e ((h n (by omega)).mpr w))]
theorem ll_sum_congr {f g : Nat → Int32} {n : Nat} (h : ∀ p, p < n → f p = g p) : ll_sum f n = ll_sum g n := by
  induction n with
  | zero => rfl
  | succ n ih => rw [ll_sum, ll_sum, ih (fun p hp => h p (by omega)), h n (by omega)]
theorem headM {κ : ll_K} (hI : ll_I κ) {s : Nat} (hs : s < 100) : ll_set (fun p => pAt κ p = s) (nP κ) = headOf κ s := ll_set_congr (fun _ hp => at_head hI hp hs)
theorem storeM {κ : ll_K} (hI : ll_I κ) {l : Nat} (hl : l < 6) : ll_cnt (fun p => pAt κ p = 100 + l) (nP κ) = storeOf κ l := ll_sum_congr (fun _ hp => jd_bcong (at_store hI hp hl))
theorem goneM {κ : ll_K} (hI : ll_I κ) : ll_cnt (fun p => pAt κ p = 999) (nP κ) = goneN κ := ll_sum_congr (fun p hp => jd_bcong (by
  have h1 := hI.2.2.2.1 p hp
  have h2 := hI.1.2.1
  show pAt κ p = 999 ↔ oI (pHead κ p) = -1 ∧ oI (pStore κ p) = -1
  rw [at_gone hI hp, oI_m1 (fun j hj => by have := h1.1 j hj; omega), oI_m1 (fun j hj => by have := (h1.2.1 j hj).1; omega)]))
theorem landM {κ : ll_K} (hI : ll_I κ) {p : Nat} (hp : p < nP κ) : (pAt κ p = 999 → ll_land κ p = none) ∧ (∀ l, pAt κ p = 100 + l → l < 6 → ll_land κ p = some l) ∧ (pAt κ p < 100 → ll_land κ p = some (sLand κ (pAt κ p)) ∧ pAt κ p < nS κ) := by
  have := hI.1.2.1
  rcases at_cases hI hp with ⟨j, h1, h2, h, e⟩ | ⟨l, h1, h2, h, e⟩ | ⟨h1, h2, e⟩
  · refine ⟨fun w => by omega, fun l w => by omega, fun _ => ⟨?_, by omega⟩⟩
    rw [e]; simp only [ll_land, h1, h2]
  · refine ⟨fun w => by omega, fun l2 w _ => ?_, fun w => by omega⟩
    simp only [ll_land, h2]; rw [show l = l2 by omega]
  · refine ⟨fun _ => by simp only [ll_land, h1, h2], fun l w => by omega, fun w => by omega⟩
/-- all of this dream, of the first k, are in the land -/
def wIs (κ : ll_K) (l d : Nat) : Nat → Bool
  | 0 => true
  | k + 1 => wIs κ l d k && (decide (¬ pDream κ k = d) || decide (ll_land κ k = some l))
def ctN (P : Nat → Prop) [DecidablePred P] : Nat → Nat
  | 0 => 0
  | n + 1 => ctN P n + if P n then 1 else 0
theorem ctN_le {P : Nat → Prop} [DecidablePred P] : ∀ n, ctN P n ≤ n
  | 0 => Nat.le_refl 0
  | n + 1 => by
    have := ctN_le (P := P) n
    simp only [ctN]
    split <;> omega
theorem cnt_nI {P : Nat → Prop} [DecidablePred P] : ∀ n, ll_cnt P n = nI (ctN P n)
  | 0 => rfl
  | n + 1 => by
    show ll_cnt P n + jd_b (P n) = _
    rw [cnt_nI n]
    simp only [ctN]
    by_cases e : P n
    · rw [jd_b1 e, if_pos e]; exact nI_add _ 1
    · rw [jd_b0 e, if_neg e]; exact nI_add _ 0
theorem ctN_and {P Q : Nat → Prop} [DecidablePred P] [DecidablePred Q] : ∀ n, ctN (fun p => P p ∧ Q p) n ≤ ctN P n ∧ (ctN P n = ctN (fun p => P p ∧ Q p) n ↔ ∀ p, p < n → P p → Q p)
  | 0 => ⟨Nat.le_refl 0, fun _ p hp => absurd hp (Nat.not_lt_zero p), fun _ => rfl⟩
  | n + 1 => by
    have ih := ctN_and (P := P) (Q := Q) n
    simp only [ctN]
    by_cases e : P n
    · by_cases e2 : Q n
      · rw [if_pos e, if_pos ⟨e, e2⟩]
        refine ⟨by omega, fun h p hp => ?_, fun h => ?_⟩
        · rcases Nat.lt_succ_iff_lt_or_eq.mp hp with w | w
          · exact ih.2.mp (by omega) p w
          · subst w; exact fun _ => e2
        · have := ih.2.mpr (fun p hp => h p (by omega)); omega
      · rw [if_pos e, if_neg (fun w => e2 w.2)]
        exact ⟨by omega, fun h => by omega, fun h => absurd (h n (by omega) e) e2⟩
    · rw [if_neg e, if_neg (fun w => e w.1)]
      refine ⟨by omega, fun h p hp => ?_, fun h => ?_⟩
      · rcases Nat.lt_succ_iff_lt_or_eq.mp hp with w | w
        · exact ih.2.mp (by omega) p w
        · subst w; exact fun w => absurd w e
      · have := ih.2.mpr (fun p hp => h p (by omega)); omega
theorem wIs_all {κ : ll_K} {l d : Nat} : ∀ n, wIs κ l d n = true ↔ ∀ p, p < n → pDream κ p = d → ll_land κ p = some l
  | 0 => ⟨fun _ p hp => absurd hp (Nat.not_lt_zero p), fun _ => rfl⟩
  | n + 1 => by
    simp only [wIs, Bool.and_eq_true, Bool.or_eq_true, decide_eq_true_eq, wIs_all n]
    constructor
    · intro h p hp hd
      rcases Nat.lt_succ_iff_lt_or_eq.mp hp with w | w
      · exact h.1 p w hd
      · subst w; exact h.2.resolve_left (fun z => z hd)
    · intro h
      refine ⟨fun p hp => h p (by omega), ?_⟩
      by_cases e : pDream κ n = d
      · exact Or.inr (h n (by omega) e)
      · exact Or.inl e
theorem wholeM {κ : ll_K} (hP : nP κ ≤ 24) {l d : Nat} : (wIs κ l d (nP κ) = true ∧ 0 < ll_cnt (fun p => pDream κ p = d) (nP κ)) ↔ (0 < wholeAll κ d ∧ wholeAll κ d = wholeHere κ l d) := by
  have h1 := ctN_and (P := fun p => pDream κ p = d) (Q := fun p => ll_land κ p = some l) (nP κ)
  have h2 := ctN_le (P := fun p => pDream κ p = d) (nP κ)
  have h3 := ctN_le (P := fun p => (pDream κ p = d) ∧ (ll_land κ p = some l)) (nP κ)
  show _ ↔ (0 < ll_cnt (fun p => pDream κ p = d) (nP κ) ∧ ll_cnt (fun p => pDream κ p = d) (nP κ) = ll_cnt (fun p => (pDream κ p = d) ∧ (ll_land κ p = some l)) (nP κ))
  rw [wIs_all, ← h1.2, cnt_nI, cnt_nI, nI_eq (by omega) (by omega)]
  exact ⟨fun w => ⟨w.2, w.1⟩, fun w => ⟨w.2, w.1⟩⟩
/-- a verse: none, or a pass's -/
theorem oV_m1 {o : Option (Nat × Nat × Nat)} (h : ∀ q, o = some q → q.2.2 < 97) : oV o = -1 ↔ o = none := by
  cases o with
  | none => exact ⟨fun _ => rfl, fun _ => rfl⟩
  | some q => exact ⟨fun e => absurd e (nI_m1 (by have := h q rfl; omega)), fun e => by cases e⟩
theorem wIs_y {κ : ll_K} {l d k : Nat} (h : pDream κ k = d) : (wIs κ l d k = true ∧ ll_land κ k = some l) ↔ wIs κ l d (k + 1) = true := by
  simp [wIs, h]
theorem wIs_n {κ : ll_K} {l d k : Nat} (h : ¬ pDream κ k = d) : wIs κ l d k = true ↔ wIs κ l d (k + 1) = true := by
  simp [wIs, h]
theorem wholeM_if {κ : ll_K} (hP : nP κ ≤ 24) {l d : Nat} {x : Int32} : (if wIs κ l d (nP κ) = true then (if ll_cnt (fun p => pDream κ p = d) (nP κ) ≤ 0 then (0 : Int32) else x) else 0) = if 0 < wholeAll κ d ∧ wholeAll κ d = wholeHere κ l d then x else 0 := by
  by_cases h : 0 < wholeAll κ d ∧ wholeAll κ d = wholeHere κ l d
  · have h2 := (wholeM hP).mpr h
    rw [if_pos h, if_pos h2.1, if_neg (Int32.not_le.mpr h2.2)]
  · rw [if_neg h]
    split
    · next e =>
      split
      · rfl
      · next e2 => exact absurd ((wholeM hP).mp ⟨e, Int32.not_le.mp e2⟩) h
    · rfl
theorem hid_bx {κ : ll_K} (hI : ll_I κ) {j : Nat} (h : j < 3 * (hids κ).length) : hidN κ j < 128 := by
  have h1 := hI.2.2.2.2.1 (j / 3) (by omega)
  have h2 := hI.1.2.1
  simp only [hS, hD, hN] at h1
  unfold hidN
  split
  · omega
  · split <;> omega
/-- sums -/
theorem sum_add (f g : Nat → Int32) : ∀ n, ll_sum (fun p => f p + g p) n = ll_sum f n + ll_sum g n
  | 0 => by simp [ll_sum]
  | n + 1 => by
    rw [ll_sum, ll_sum, ll_sum, sum_add f g n, Int32.add_assoc, Int32.add_assoc]
    congr 1
    rw [← Int32.add_assoc, ← Int32.add_assoc, Int32.add_comm (f n)]
theorem sum_zero : ∀ n, ll_sum (fun _ => 0) n = 0
  | 0 => rfl
  | n + 1 => by rw [ll_sum, sum_zero n, Int32.add_zero]
theorem sum_swap (F : Nat → Nat → Int32) (n : Nat) : ∀ m, ll_sum (fun j => ll_sum (fun p => F j p) n) m = ll_sum (fun p => ll_sum (fun j => F j p) m) n
  | 0 => by
    show (0 : Int32) = ll_sum (fun _ => 0) n
    rw [sum_zero]
  | m + 1 => by
    rw [ll_sum, sum_swap F n m]
    show _ = ll_sum (fun p => ll_sum (fun j => F j p) m + F m p) n
    rw [sum_add]
/-- one place of a row -/
theorem sum_one {f : Nat → Int32} {P : Nat → Prop} [DecidablePred P] {x : Int32} {m : Nat} (hu : ∀ i j, i < m → j < m → P i → P j → i = j) (hf : ∀ j, j < m → f j = if P j then x else 0) : ll_sum f m = if ∃ j, j < m ∧ P j then x else 0 := by
  induction m with
  | zero => rw [if_neg (fun ⟨j, hj, _⟩ => Nat.not_lt_zero j hj)]; rfl
  | succ m ih =>
    have h1 := ih (fun i j hi hj => hu i j (by omega) (by omega)) (fun j hj => hf j (by omega))
    rw [ll_sum, h1, hf m (by omega)]
    by_cases e : P m
    · have hn : ¬ ∃ j, j < m ∧ P j := fun ⟨j, hj, hp⟩ => by have := hu j m (by omega) (by omega) hp e; omega
      have hy : ∃ j, j < m + 1 ∧ P j := ⟨m, by omega, e⟩
      rw [if_pos e, if_neg hn, if_pos hy, Int32.zero_add]
    · rw [if_neg e, Int32.add_zero]
      by_cases e2 : ∃ j, j < m ∧ P j
      · obtain ⟨j, hj, hp⟩ := e2
        rw [if_pos ⟨j, hj, hp⟩, if_pos ⟨j, by omega, hp⟩]
      · rw [if_neg e2, if_neg (fun ⟨j, hj, hp⟩ => by
          rcases Nat.lt_succ_iff_lt_or_eq.mp hj with w | w
          · exact e2 ⟨j, w, hp⟩
          · subst w; exact e hp)]
/-- what part p adds to the hidden worth of gate g -/
def hidF (κ : ll_K) (g p : Nat) : Int32 := if pAt κ p < 100 then (if placeOf κ g (pAt κ p) = none then 0 else if ll_has (sDecl κ (pAt κ p)) p then 0 else pWorth κ p) else 0
theorem hidM {κ : ll_K} (hI : ll_I κ) {g : Nat} (hg : g < nG κ) : ll_sum (hidF κ g) (nP κ) = hiddenWorth κ g := by
  have h12 := hI.1.2.1
  have hq := qOk_of hI hg
  unfold hiddenWorth worthOf
  rw [sum_swap (fun j p => if ll_has (headOf κ (qAt κ g j) &&& (sDecl κ (qAt κ g j) ^^^ (-1))) p then pWorth κ p else 0)]
  refine ll_sum_congr (fun p hp => ?_)
  have key : ∀ j, ll_has (headOf κ (qAt κ g j) &&& (sDecl κ (qAt κ g j) ^^^ (-1))) p ↔ pHead κ p = some (qAt κ g j) ∧ ¬ ll_has (sDecl κ (qAt κ g j)) p := fun j => hid_head hI hp
  rw [sum_one (P := fun j => pHead κ p = some (qAt κ g j) ∧ ¬ ll_has (sDecl κ (qAt κ g j)) p) (x := pWorth κ p) (fun i j hi hj h1 h2 => ?_) (fun j hj => ?_)]
  · unfold hidF
    rcases at_cases hI hp with ⟨s, a1, a2, a3, a4⟩ | ⟨l, a1, a2, a3, a4⟩ | ⟨a1, a2, a4⟩
    · rw [a4, if_pos (by omega)]
      by_cases e : placeOf κ g s = none
      · rw [if_pos e, if_neg]
        rintro ⟨j, hj, h1, h2⟩
        rw [a1] at h1
        exact find_no e j hj (Option.some.inj h1).symm
      · rw [if_neg e]
        obtain ⟨j, hj⟩ := Option.ne_none_iff_exists'.mp e
        have hlt := ll_find_lt hj
        have hP := ll_find_P (P := fun j => qAt κ g j = s) hj
        by_cases e2 : ll_has (sDecl κ s) p
        · rw [if_pos e2, if_neg]
          rintro ⟨j, hj, h1, h2⟩
          rw [a1] at h1
          rw [← Option.some.inj h1] at h2
          exact h2 e2
        · rw [if_neg e2, if_pos]
          exact ⟨j, hlt, by rw [a1, hP], by rw [hP]; exact e2⟩
    · rw [a4, if_neg (by omega), if_neg]
      rintro ⟨j, hj, h1, h2⟩
      rw [a1] at h1; cases h1
    · rw [a4, if_neg (by omega), if_neg]
      rintro ⟨j, hj, h1, h2⟩
      rw [a1] at h1; cases h1
  · have h3 : qAt κ g i = qAt κ g j := Option.some.inj (h1.1.symm.trans h2.1)
    have h4 : (gQue κ g)[i] = (gQue κ g)[j] := by rw [← gd_get hi, ← gd_get hj]; exact h3
    exact (List.getElem_inj hq.2.1).mp h4
  · by_cases e : ll_has (headOf κ (qAt κ g j) &&& (sDecl κ (qAt κ g j) ^^^ (-1))) p
    · rw [if_pos e, if_pos ((key j).mp e)]
    · rw [if_neg e, if_neg (fun w => e ((key j).mpr w))]
theorem hid_n0 {κ : ll_K} {g k : Nat} (h : 100 ≤ pAt κ k) : ll_sum (hidF κ g) k = ll_sum (hidF κ g) (k + 1) := by
  rw [ll_sum]; unfold hidF; rw [if_neg (Nat.not_lt.mpr h), Int32.add_zero]
theorem hid_n1 {κ : ll_K} {g k : Nat} (h : placeOf κ g (pAt κ k) = none) : ll_sum (hidF κ g) k = ll_sum (hidF κ g) (k + 1) := by
  have e : hidF κ g k = 0 := by
    unfold hidF
    by_cases w : pAt κ k < 100
    · rw [if_pos w, if_pos h]
    · rw [if_neg w]
  rw [ll_sum, e, Int32.add_zero]
theorem has01 {x : Int32} {p : Nat} (hp : p < 32) : ((x >>> (nI p &&& 31)) &&& 1) = 0 ↔ ¬ ll_has x p := by
  rw [ll_hasb hp]
  have e : (x >>> ((nI p) &&& 31)).toBitVec = x.toBitVec.sshiftRight p := by
    rw [Int32.toBitVec_shiftRight, ll_shk p hp]
    show x.toBitVec.sshiftRight (BitVec.ofNat 32 p).toNat = _
    rw [BitVec.toNat_ofNat, Nat.mod_eq_of_lt (by omega)]
  rw [← Int32.toBitVec_inj, Int32.toBitVec_and, e]
  have h1 : (1 : Int32).toBitVec = 1#32 := rfl
  rw [h1, BitVec.and_one_eq_setWidth_ofBool_getLsbD]
  have e2 : (x.toBitVec.sshiftRight p).getLsbD 0 = ll_bt x p := by
    rw [ll_bt, BitVec.getLsbD_sshiftRight]; simp [hp]
  rw [e2]
  cases ll_bt x p <;> decide
theorem hid_n2 {κ : ll_K} {g k : Nat} (h1 : pAt κ k < 100) (h2 : ¬ placeOf κ g (pAt κ k) = none) (h3 : ll_has (sDecl κ (pAt κ k)) k) : ll_sum (hidF κ g) k = ll_sum (hidF κ g) (k + 1) := by
  rw [ll_sum]; unfold hidF; rw [if_pos h1, if_neg h2, if_pos h3, Int32.add_zero]
theorem hid_y {κ : ll_K} {g k : Nat} (h1 : pAt κ k < 100) (h2 : ¬ placeOf κ g (pAt κ k) = none) (h3 : ¬ ll_has (sDecl κ (pAt κ k)) k) : pWorth κ k = hidF κ g k := by
  unfold hidF; rw [if_pos h1, if_neg h2, if_neg h3]
theorem has_t {x : Int32} {p : Nat} (hp : p < 32) (h : ¬ ((x >>> (nI p &&& 31)) &&& 1) = 0) : ll_has x p := Decidable.not_not.mp (fun w => h ((has01 hp).mpr w))
theorem open_eq {x y : Int32} : (x + 24) - y = (x - y) + 24 := by
  rw [Int32.sub_eq_add_neg, Int32.sub_eq_add_neg, Int32.add_assoc, Int32.add_assoc, Int32.add_comm 24]
theorem hidN0 {κ : ll_K} {k : Nat} : hidN κ (3 * k) = hS κ k := by
  unfold hidN; rw [if_pos (by omega), show 3 * k / 3 = k by omega]
theorem hidN1 {κ : ll_K} {k : Nat} : hidN κ (3 * k + 1) = hD κ k := by
  unfold hidN; rw [if_neg (by omega), if_pos (by omega), show (3 * k + 1) / 3 = k by omega]
theorem hidN2 {κ : ll_K} {k : Nat} : hidN κ (3 * k + 2) = hN κ k := by
  unfold hidN; rw [if_neg (by omega), if_neg (by omega), show (3 * k + 2) / 3 = k by omega]
theorem good_q {κ : ll_K} {s g : Nat} {q : Nat × Nat × Nat} (hq : sPass κ s = some q) (h1 : q.1 = g) (h2 : q.2.1 = nNight κ) : goodNow κ s g ↔ ((¬ gWatch κ g < 5 ∧ ¬ 1 < absI (nI q.2.2 - jd_rem (((13 * nI s) + (29 * nI g)) + (7 * nI (nNight κ))) 97)) ∨ (¬ ¬ gWatch κ g < 5 ∧ absI (nI q.2.2 - jd_rem (((13 * nI s) + (29 * nI g)) + (7 * nI (nNight κ))) 97) = 0 ∧ ¬ gRev κ g q.2.2 = true)) := by
  have e1 : psG κ s = q.1 := by simp only [psG, hq, Option.getD_some]
  have e2 : psN κ s = q.2.1 := by simp only [psN, hq, Option.getD_some]
  have e3 : psV κ s = q.2.2 := by simp only [psV, hq, Option.getD_some]
  simp only [goodNow, farI, e1, e2, e3]
  constructor
  · exact fun w => w.2.2.2
  · exact fun w => ⟨by rw [hq]; rfl, h1, h2, w⟩
theorem good_no {κ : ll_K} {s g : Nat} {q : Nat × Nat × Nat} (hq : sPass κ s = some q) (h : ¬ (q.1 = g ∧ q.2.1 = nNight κ)) : ¬ goodNow κ s g := fun w => by
  have e1 : psG κ s = q.1 := by simp only [psG, hq, Option.getD_some]
  have e2 : psN κ s = q.2.1 := by simp only [psN, hq, Option.getD_some]
  rw [← e1, ← e2] at h
  exact h ⟨w.2.1, w.2.2.1⟩
/-- part p is declared and comes in -/
abbrev alIn (κ : ll_K) (D q c : Int32) (k : Nat) : Prop := ll_has D k ∧ (¬ (ll_has D k ∧ ¬ pDread κ k < 5) ∨ ¬ (q ≤ (ll_al κ D q c k).1))
theorem al_set {κ : ll_K} {D q c : Int32} : ∀ n, (ll_al κ D q c n).2 = ll_set (alIn κ D q c) n
  | 0 => rfl
  | n + 1 => by
    rw [ll_set, ← al_set n]
    rfl
theorem al_has {κ : ll_K} {D : Int32} {l p : Nat} (hP : nP κ ≤ 24) (hp : p < nP κ) : ll_has (allowed κ D l) p ↔ alIn κ D (lQuo κ l) (lNight κ l) p := by
  rw [allowed, al_set, ll_hasb (by omega), ll_setb _ (by omega) (by omega), decide_eq_true_iff]
  exact ⟨fun w => w.2, fun w => ⟨hp, w⟩⟩
theorem al_worth {κ : ll_K} {D : Int32} {l : Nat} (hP : nP κ ≤ 24) : ll_sum (fun p => if alIn κ D (lQuo κ l) (lNight κ l) p then pWorth κ p else 0) (nP κ) = worthOf κ (allowed κ D l) := by
  refine ll_sum_congr (fun p hp => ?_)
  by_cases e : alIn κ D (lQuo κ l) (lNight κ l) p
  · rw [if_pos e, if_pos ((al_has hP hp).mpr e)]
  · rw [if_neg e, if_neg (fun w => e ((al_has hP hp).mp w))]
section ALS
variable {κ : ll_K} {D q c : Int32} {k : Nat}
theorem al_n (h : ¬ ll_has D k) : (ll_al κ D q c k).1 = (ll_al κ D q c (k + 1)).1 ∧ ll_sum (fun p => if alIn κ D q c p then pWorth κ p else 0) k = ll_sum (fun p => if alIn κ D q c p then pWorth κ p else 0) (k + 1) := by
  constructor
  · show _ = (ll_al κ D q c k).1 + jd_b _
    rw [jd_b0 (fun w => h w.1.1), Int32.add_zero]
  · rw [ll_sum, if_neg (fun w => h w.1), Int32.add_zero]
theorem al_y1 (h : ll_has D k) : (ll_al κ D q c k).1 + jd_b (¬ pDread κ k < 5 ∧ ¬ (¬ pDread κ k < 5 ∧ ¬ (ll_al κ D q c k).1 < q)) = (ll_al κ D q c (k + 1)).1 := by
  show _ = (ll_al κ D q c k).1 + jd_b _
  refine congrArg _ (jd_bcong ?_)
  constructor
  · rintro ⟨a, b⟩
    refine ⟨⟨h, a⟩, h, Or.inr (fun w => b ⟨a, Int32.not_lt.mpr w⟩)⟩
  · rintro ⟨⟨_, a⟩, _, b⟩
    refine ⟨a, fun w => ?_⟩
    rcases b with b | b
    · exact b ⟨h, a⟩
    · exact b (Int32.not_lt.mp w.2)
theorem al_y2 (h : ll_has D k) : ll_sum (fun p => if alIn κ D q c p then pWorth κ p else 0) k + (if ¬ pDread κ k < 5 ∧ ¬ (ll_al κ D q c k).1 < q then 0 else pWorth κ k) = ll_sum (fun p => if alIn κ D q c p then pWorth κ p else 0) (k + 1) := by
  rw [ll_sum]
  congr 1
  by_cases e : ¬ pDread κ k < 5 ∧ ¬ (ll_al κ D q c k).1 < q
  · rw [if_pos e, if_neg]
    rintro ⟨_, b⟩
    rcases b with b | b
    · exact b ⟨h, e.1⟩
    · exact b (Int32.not_lt.mp e.2)
  · rw [if_neg e, if_pos]
    refine ⟨h, ?_⟩
    by_cases e1 : pDread κ k < 5
    · exact Or.inl (fun w => w.2 e1)
    · exact Or.inr (fun w => e ⟨e1, Int32.not_lt.mpr w⟩)
end ALS
theorem duty_eq {κ : ll_K} {l : Nat} {w : Int32} (h1 : 0 ≤ w.toInt ∧ w.toInt ≤ 2376) (h2 : 0 ≤ lAll κ l ∧ lAll κ l ≤ 99) : ((if 0 < w - lAll κ l then w - lAll κ l else 0) * lRate κ l) / 100 = dutyOf κ l w := by
  have a1 := i_le.mp h2.1
  have a2 := i_le.mp h2.2
  rw [i0] at a1
  have e99 : (99 : Int32).toInt = 99 := by decide
  rw [e99] at a2
  have e : (w - lAll κ l).toInt = w.toInt - (lAll κ l).toInt := i_sub (by omega) (by omega)
  unfold dutyOf
  by_cases h : lAll κ l < w
  · have h3 := i_lt.mp h
    rw [if_pos h, if_pos (by rw [i_lt, i0, e]; omega)]
  · rw [if_neg h, if_neg (by rw [i_lt, i0, e]; rw [i_lt] at h; omega), Int32.zero_mul]
    decide
theorem at_no {κ : ll_K} (hI : ll_I κ) {p : Nat} (hp : p < nP κ) (h : 100 ≤ pAt κ p) : oI (pHead κ p) = -1 := by
  have := hI.1.2.1
  rcases at_cases hI hp with ⟨j, h1, h2, h3, e⟩ | ⟨l, h1, h2, h3, e⟩ | ⟨h1, h2, e⟩
  · omega
  · rw [h1]; rfl
  · rw [h1]; rfl
theorem at_yes {κ : ll_K} (hI : ll_I κ) {p : Nat} (hp : p < nP κ) (h : pAt κ p < 100) : oI (pHead κ p) = nI (pAt κ p) := by
  rcases at_cases hI hp with ⟨j, h1, h2, h3, e⟩ | ⟨l, h1, h2, h3, e⟩ | ⟨h1, h2, e⟩
  · rw [h1, e]; rfl
  · omega
  · omega
