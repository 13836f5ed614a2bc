/-! ===== pl: plans ===== -/
theorem nI_int {n : Nat} (h : n < 2 ^ 31) : (nI n).toInt = n := nI_toInt h
theorem i_le {a b : Int32} : a ≤ b ↔ a.toInt ≤ b.toInt := Int32.le_iff_toInt_le
theorem i_lt {a b : Int32} : a < b ↔ a.toInt < b.toInt := Int32.lt_iff_toInt_lt
theorem i_add {a b : Int32} (h1 : -2147483648 ≤ a.toInt + b.toInt) (h2 : a.toInt + b.toInt < 2147483648) : (a + b).toInt = a.toInt + b.toInt := by
  rw [Int32.toInt_add, Int.bmod_eq_of_le (by omega) (by omega)]
theorem i_sub {a b : Int32} (h1 : -2147483648 ≤ a.toInt - b.toInt) (h2 : a.toInt - b.toInt < 2147483648) : (a - b).toInt = a.toInt - b.toInt := by
  rw [Int32.toInt_sub, Int.bmod_eq_of_le (by omega) (by omega)]
theorem i_nat {x : Int32} (h : 0 ≤ x.toInt) : x = nI x.toInt.toNat ∧ x.toInt.toNat < 2 ^ 31 := by
  have h2 : x.toInt < 2 ^ 31 := x.toInt_lt
  have h3 : x.toInt.toNat < 2 ^ 31 := by omega
  refine ⟨Int32.toInt_inj.mp ?_, h3⟩
  rw [nI_toInt h3]; omega
theorem ll_sum_bd {f : Nat → Int32} {c n : Nat} (h : ∀ p, p < n → 0 ≤ (f p).toInt ∧ (f p).toInt ≤ c) (hc : n * c < 2 ^ 31) : 0 ≤ (ll_sum f n).toInt ∧ (ll_sum f n).toInt ≤ n * c := by
  induction n with
  | zero =>
    show 0 ≤ (0 : Int32).toInt ∧ (0 : Int32).toInt ≤ _
    have : (0 : Int32).toInt = 0 := by decide
    rw [this]; omega
  | succ n ih =>
    have hm : (n + 1) * c = n * c + c := by rw [Nat.add_mul, Nat.one_mul]
    have h1 := ih (fun p hp => h p (by omega)) (by omega)
    have h2 := h n (by omega)
    have hm2 : ((n + 1 : Nat) : Int) * (c : Int) = (n : Int) * (c : Int) + (c : Int) := by rw [Int.natCast_add, Int.add_mul]; simp
    have hm3 : ((n * c : Nat) : Int) = (n : Int) * (c : Int) := Int.natCast_mul n c
    have h3 : (ll_sum f n + f n).toInt = (ll_sum f n).toInt + (f n).toInt := i_add (by omega) (by omega)
    show 0 ≤ (ll_sum f n + f n).toInt ∧ (ll_sum f n + f n).toInt ≤ _
    rw [h3, hm2]
    omega
theorem worth_bd {κ : ll_K} (hI : ll_I κ) (set : Int32) : 0 ≤ (worthOf κ set).toInt ∧ (worthOf κ set).toInt ≤ 2376 := by
  have h1 := hI.1.2.2.1
  have := ll_sum_bd (f := fun p => if ll_has set p then pWorth κ p else 0) (c := 99) (n := nP κ) (fun p hp => by
    have h2 := (hI.2.2.2.1 p hp).2.2.2.2.2.1
    have h0 : (0 : Int32).toInt = 0 := by decide
    have h99 : (99 : Int32).toInt = 99 := by decide
    split
    · have a := i_le.mp h2.1; have b := i_le.mp h2.2; rw [h0] at a; rw [h99] at b; exact ⟨a, b⟩
    · rw [h0]; omega) (by omega)
  unfold worthOf
  refine ⟨this.1, Int.le_trans this.2 ?_⟩
  omega
def hwN (κ : ll_K) (g : Nat) : Nat := (hiddenWorth κ g).toInt.toNat
theorem hw_is {κ : ll_K} (hI : ll_I κ) {g : Nat} (hg : g < nG κ) : hiddenWorth κ g = nI (hwN κ g) ∧ hwN κ g ≤ 28512 := by
  have hq := (hI.2.1 g hg).2.2.1
  have h := ll_sum_bd (f := fun j => worthOf κ (headOf κ (qAt κ g j) &&& (sDecl κ (qAt κ g j) ^^^ (-1)))) (c := 2376) (n := (gQue κ g).length) (fun p _ => worth_bd hI _) (by omega)
  have h1 : 0 ≤ (hiddenWorth κ g).toInt ∧ (hiddenWorth κ g).toInt ≤ (gQue κ g).length * 2376 := h
  refine ⟨(i_nat h1.1).1, ?_⟩
  unfold hwN
  omega
theorem nI_div {a b : Nat} (ha : a < 2 ^ 31) (hb : b < 2 ^ 31) : nI a / nI b = nI (a / b) := by
  apply Int32.toInt_inj.mp
  have h3 : a / b < 2 ^ 31 := Nat.lt_of_le_of_lt (Nat.div_le_self a b) ha
  rw [Int32.toInt_div, nI_toInt ha, nI_toInt hb, nI_toInt h3]
  have : ((a : Int).tdiv (b : Int)) = ((a / b : Nat) : Int) := by rw [Int.ofNat_tdiv]
  rw [this]
  generalize a / b = q at h3
  exact Int.bmod_eq_of_le (by omega) (by omega)
/-- the best of the first o odds -/
def mxO (w : Nat) (T : Nat → Nat) (s : Nat) : Nat → Nat
  | 0 => 0
  | o + 1 => max (mxO w T s o) (w * o / 10 + T (s - o))
/-- the greatest catch by the last m gates with s odds in all -/
def catM (κ : ll_K) : Nat → Nat → Nat
  | 0 => fun _ => 0
  | m + 1 => fun s => mxO (hwN κ (nG κ - (m + 1))) (catM κ m) s (min 10 s + 1)
theorem mxO_bd {w s c : Nat} {T : Nat → Nat} (hw : w ≤ 28512) (hT : ∀ x, T x ≤ c) : ∀ o, o ≤ 11 → mxO w T s o ≤ 28512 + c
  | 0, _ => Nat.zero_le _
  | o + 1, h => by
    have h1 := mxO_bd hw hT (s := s) o (by omega)
    have h2 : w * o ≤ 28512 * 10 := Nat.mul_le_mul hw (by omega)
    have h3 := hT (s - o)
    show max _ _ ≤ _
    omega
theorem catM_bd {κ : ll_K} (hI : ll_I κ) : ∀ m, m ≤ nG κ → ∀ s, catM κ m s ≤ 28512 * m
  | 0, _, _ => Nat.zero_le _
  | m + 1, h, s => by
    have h1 := mxO_bd (s := s) (hw_is hI (g := nG κ - (m + 1)) (by omega)).2 (catM_bd hI m (by omega)) (min 10 s + 1) (by omega)
    show mxO _ _ _ _ ≤ _
    omega
/-- the rows of the table: those of the last m gates are done -/
def FF (κ : ll_K) (m : Nat) : Nat → Nat → Int32 := fun k s => if nG κ ≤ k + m ∧ s < 10 * nG κ + 1 then nI (catM κ (nG κ - k) s) else 0
def rw1 (κ : ll_K) (m s o : Nat) : Nat → Int32 := fun x => if x < s then nI (catM κ (m + 1) x) else if x = s then nI (mxO (hwN κ (nG κ - (m + 1))) (catM κ m) s o) else 0
def FG (κ : ll_K) (m s o : Nat) : Nat → Nat → Int32 := fun k => if k = nG κ - 1 - m then rw1 κ m s o else FF κ m k
theorem FF_0 {κ : ll_K} : FF κ 0 = fun _ _ => 0 := by
  funext k s
  unfold FF
  split
  · next h => rw [show nG κ - k = 0 by omega]; rfl
  · rfl
theorem FG_0 {κ : ll_K} {m : Nat} (hm : m < nG κ) : FG κ m 0 0 = FF κ m := by
  funext k s
  unfold FG
  split
  · next h =>
    subst h
    unfold rw1 FF
    have hh : ¬ (nG κ ≤ nG κ - 1 - m + m ∧ s < 10 * nG κ + 1) := fun w => by have := w.1; omega
    rw [if_neg (Nat.not_lt_zero s), if_neg hh]
    split <;> rfl
  · rfl
theorem FG_L {κ : ll_K} {m : Nat} (hm : m < nG κ) : FG κ m (10 * nG κ + 1) 0 = FF κ (m + 1) := by
  funext k s
  unfold FG
  split
  · next h =>
    subst h
    unfold rw1 FF
    rw [show nG κ - (nG κ - 1 - m) = m + 1 by omega]
    by_cases e : s < 10 * nG κ + 1
    · rw [if_pos e, if_pos ⟨by omega, e⟩]
    · have hh : ¬ (nG κ ≤ nG κ - 1 - m + (m + 1) ∧ s < 10 * nG κ + 1) := fun w => e w.2
      rw [if_neg e, if_neg hh]
      split <;> rfl
  · next h =>
    unfold FF
    by_cases e : nG κ ≤ k + m ∧ s < 10 * nG κ + 1
    · rw [if_pos e, if_pos ⟨by omega, e.2⟩]
    · rw [if_neg e, if_neg (fun w => e ⟨by omega, w.2⟩)]
theorem FG_s {κ : ll_K} {m s : Nat} : FG κ m s (min 10 s + 1) = FG κ m (s + 1) 0 := by
  funext k x
  unfold FG
  split
  · unfold rw1
    by_cases e : x < s
    · rw [if_pos e, if_pos (by omega)]
    · rw [if_neg e]
      by_cases f : x = s
      · subst f
        rw [if_pos rfl, if_pos (by omega)]
        rfl
      · rw [if_neg f, if_neg (by omega)]
        split <;> rfl
  · rfl
theorem FG_o {κ : ll_K} {m s o : Nat} {v : Int32} (hv : v = nI (max (mxO (hwN κ (nG κ - (m + 1))) (catM κ m) s o) (hwN κ (nG κ - (m + 1)) * o / 10 + catM κ m (s - o)))) : (fun j => if j = nG κ - 1 - m then upd (FG κ m s o (nG κ - 1 - m)) s v else FG κ m s o j) = FG κ m s (o + 1) := by
  funext k
  by_cases e : k = nG κ - 1 - m
  · rw [if_pos e]
    unfold FG
    rw [if_pos rfl, if_pos e]
    refine upd_fun ?_ (fun x hx => ?_)
    · unfold rw1
      rw [if_neg (Nat.lt_irrefl s), if_pos rfl, hv]; rfl
    · unfold rw1
      rw [if_neg hx, if_neg hx]
  · rw [if_neg e]
    unfold FG
    rw [if_neg e, if_neg e]
theorem FG_cur {κ : ll_K} {m s o : Nat} : FG κ m s o (nG κ - 1 - m) s = nI (mxO (hwN κ (nG κ - (m + 1))) (catM κ m) s o) := by
  unfold FG
  rw [if_pos rfl]
  unfold rw1
  rw [if_neg (Nat.lt_irrefl s), if_pos rfl]
theorem FG_nxt {κ : ll_K} {m s o x : Nat} (hm : m < nG κ) (hx : x < 10 * nG κ + 1) : FG κ m s o (nG κ - 1 - m + 1) x = nI (catM κ m x) := by
  unfold FG
  rw [if_neg (by omega)]
  unfold FF
  rw [if_pos ⟨by omega, hx⟩, show nG κ - (nG κ - 1 - m + 1) = m by omega]
theorem FF_at {κ : ll_K} {k x : Nat} (hx : x < 10 * nG κ + 1) : FF κ (nG κ) k x = nI (catM κ (nG κ - k) x) := by
  unfold FF
  rw [if_pos ⟨by omega, hx⟩]
def gI (κ : ll_K) (m : Nat) : Int32 := if m < nG κ then nI (nG κ - 1 - m) else -1
theorem gI_z {κ : ll_K} : gI κ (nG κ) = -1 := if_neg (Nat.lt_irrefl _)
theorem gI_s {κ : ll_K} {m : Nat} (hm : m < nG κ) (h8 : nG κ ≤ 8) : nI (nG κ - 1 - m) + (-1) = gI κ (m + 1) := by
  unfold gI
  apply Int32.toInt_inj.mp
  have hm1 : (-1 : Int32).toInt = -1 := by decide
  rw [i_add (by rw [nI_toInt (by omega), hm1]; omega) (by rw [nI_toInt (by omega), hm1]; omega), nI_toInt (by omega), hm1]
  split
  · rw [nI_toInt (by omega)]; omega
  · rw [hm1]; omega
