/-! ===== zr: answers and refusals ===== -/
/-- refused with the number c -/
def jd_th (h : jd_H) (c : Nat) (nm : Nat → String) : String → jd_H → Prop := fun E h2 => c ≠ 0 ∧ E = nm c ∧ h2 = h
theorem jd_th.mk {h : jd_H} {c k : Nat} {nm : Nat → String} {E : String} (hc : c = k) (hk : k ≠ 0) (hE : E = nm k) : jd_th h c nm E h := by
  subst hc; exact ⟨hk, hE, rfl⟩
/-- answered with v, all is as it was -/
def jd_an (h : jd_H) (c : Nat) (v : Value) : Option Value → jd_H → Prop := fun r h2 => c = 0 ∧ r = some v ∧ h2 = h
def nmA : Nat → String
  | 1 => "java/lang/IndexOutOfBoundsException"
  | 2 => "java/lang/IllegalArgumentException"
  | _ => "java/lang/IllegalStateException"
def nmB : Nat → String
  | 1 => "java/lang/IndexOutOfBoundsException"
  | _ => "java/lang/IllegalStateException"
def nmC : Nat → String
  | 1 => "java/lang/IllegalArgumentException"
  | _ => "java/lang/IllegalStateException"
/-- a place among n -/
abbrev inN (x : Int32) (n : Nat) : Prop := ¬ x < 0 ∧ x < nI n
/-- a number from lo to hi -/
abbrev inR (x lo hi : Int32) : Prop := ¬ x < lo ∧ ¬ hi < x
theorem i0 : (0 : Int32).toInt = 0 := by decide
theorem inN_ex {x : Int32} {n : Nat} (hn : n < 2 ^ 31) (h : inN x n) : ∃ k, k < n ∧ x = nI k := by
  have h1 : 0 ≤ x.toInt := by have := h.1; rw [i_lt, i0] at this; omega
  obtain ⟨e, hk⟩ := i_nat h1
  refine ⟨x.toInt.toNat, ?_, e⟩
  have := i_lt.mp h.2
  rw [nI_toInt hn] at this
  omega
theorem inR_ex {x : Int32} {lo hi : Nat} (h : inR x (nI lo) (nI hi)) (hh : hi < 2 ^ 31) (hl : lo < 2 ^ 31) : ∃ k, (lo ≤ k ∧ k ≤ hi) ∧ x = nI k := by
  have h1 : (lo : Int) ≤ x.toInt := by have := h.1; rw [i_lt, nI_toInt hl] at this; omega
  have h2 : x.toInt ≤ (hi : Int) := by have := h.2; rw [i_lt, nI_toInt hh] at this; omega
  obtain ⟨e, hk⟩ := i_nat (x := x) (by omega)
  exact ⟨x.toInt.toNat, ⟨by omega, by omega⟩, e⟩
def c_ofLand (l w : Int32) : Nat := if inN l 6 then (if inR w 0 8 then 0 else 2) else 1
def c_ofGate (κ : ll_K) (g w : Int32) : Nat := if inN g (nG κ) then (if inR w 0 9 then 0 else 2) else 1
def c_ofSleeper (κ : ll_K) (s w : Int32) : Nat := if inN s (nS κ) then (if inR w 0 8 then 0 else 2) else 1
def c_ofPart (κ : ll_K) (p w : Int32) : Nat := if inN p (nP κ) then (if inR w 0 5 then 0 else 2) else 1
def c_isGood (κ : ll_K) (s g : Int32) : Nat := if inN s (nS κ) then (if inN g (nG κ) then 0 else 1) else 1
def c_night (w : Int32) : Nat := if inR w 0 16 then 0 else 1
def c_way (f t : Int32) : Nat := if ¬ f < 0 ∧ f < 6 then (if ¬ t < 0 ∧ t < 6 then 0 else 1) else 1
def c_gate1 (κ : ll_K) (g : Int32) : Nat := if inN g (nG κ) then 0 else 1
/-- a number as a Nat -/
abbrev tN (x : Int32) : Nat := x.toInt.toNat
theorem tN_nI {k : Nat} (h : k < 2 ^ 31) : tN (nI k) = k := by
  show (nI k).toInt.toNat = k
  rw [nI_toInt h]; omega
def c_plan (κ : ll_K) (p g : Int32) : Nat := if ¬ (if g = -1 then 0 else g) < 0 ∧ (if g = -1 then 0 else g) < (if g = -1 then 1 else nI (nG κ)) then (if inR p 0 2000 then 0 else 2) else 1
def oN (x : Int32) : Option Nat := if x = -1 then none else some (tN x)
theorem oN_oI {o : Option Nat} (h : ∀ j, o = some j → j < 2 ^ 31) : oN (oI o) = o := by
  cases o with
  | none => rfl
  | some j =>
    have hj := h j rfl
    unfold oN
    rw [if_neg (show ¬ oI (some j) = -1 from nI_m1 hj)]
    show some (tN (nI j)) = some j
    rw [tN_nI hj]
theorem plan_o {κ : ll_K} (hI : ll_I κ) {g : Int32} (h : ¬ (if g = -1 then 0 else g) < 0 ∧ (if g = -1 then 0 else g) < (if g = -1 then 1 else nI (nG κ))) : ∃ o : Option Nat, (∀ j, o = some j → j < nG κ) ∧ g = oI o := by
  by_cases e : g = -1
  · exact ⟨none, ⟨fun j hj => absurd hj (by simp), e⟩⟩
  · rw [if_neg e, if_neg e] at h
    have h8 := hI.1.1
    obtain ⟨k, hk, rfl⟩ := inN_ex (by omega) h
    exact ⟨some k, ⟨fun j hj => by injection hj with hj; omega, rfl⟩⟩
abbrev wayN (κ : ll_K) (f t : Nat) : Int32 := oI (wayW κ f 72 t)
theorem ll_nek {f k L : Nat} {j : jd_Id} (hf : f < L) (hj : L ≤ j.1) : j ≠ (f, k) := fun z => by
  subst z
  exact absurd hj (Nat.not_le.mpr hf)
/-- an act: answered with v, the state is κ' -/
def jd_op (G : jd_G) (β : ll_B) (h : jd_H) (c : Nat) (v : Value) (κ' : ll_K) : Option Value → jd_H → Prop := fun r h2 => c = 0 ∧ r = some v ∧ ∃ β' : ll_B, β' 0 0 = β 0 0 ∧ WC G β' κ' h2 ∧ ∀ j : jd_Id, 20 ≤ j.1 → h2 j = h j
def c_land (l r a : Int32) : Nat := if inN l 6 then (if inR r 0 50 then (if inR a 0 99 then 0 else 2) else 2) else 1
def k_land (κ : ll_K) (l : Nat) (r a : Int32) : ll_K := ll_sz (ll_sz κ 0 l r) 1 l a
def c_trade (κ : ll_K) (f t m : Int32) : Nat := if inN f 6 then (if inN t 6 then (if (¬ tN f = tN t ∧ ¬ m < 0) then (if ¬ lQuo κ (tN f) < m ∧ ¬ 30 < lQuo κ (tN t) + m then 0 else 3) else 2) else 1) else 1
def k_trade1 (κ : ll_K) (f : Nat) (m : Int32) : ll_K := ll_sz κ 2 f (lQuo κ f - m)
def k_trade (κ : ll_K) (f t : Nat) (m : Int32) : ll_K := ll_sz (k_trade1 κ f m) 2 t (lQuo (k_trade1 κ f m) t + m)
def c_odds (κ : ll_K) (g o : Int32) : Nat := if inN g (nG κ) then (if inR o 0 10 then 0 else 2) else 1
def c_give (κ : ll_K) (p t : Int32) : Nat := if inN p (nP κ) then (if inN t (nS κ) then (if ¬ pHead κ (tN p) = none ∧ ¬ pHead κ (tN p) = some (tN t) then (if sRest κ ((pHead κ (tN p)).getD 0) = 0 ∧ (sRest κ (tN t) = 0 ∧ sLand κ ((pHead κ (tN p)).getD 0) = sLand κ (tN t)) then 0 else 2) else 2) else 1) else 1
theorem rev_upd {r : Nat → Bool} {j : Nat} (hj : j < 2 ^ 31) : upd (fun v => jd_b (r v = true)) (nI j).toNatClampNeg 1 = fun v => jd_b ((if v = j then true else r v) = true) := by
  rw [nI_clamp hj]
  refine upd_fun ?_ (fun x hx => ?_)
  · simp [jd_b]
  · simp [hx]
def c_revoke (κ : ll_K) (g v : Int32) : Nat := if inN g (nG κ) then (if inR v 0 96 then 0 else 2) else 1
def k_revoke (κ : ll_K) (g v : Nat) : ll_K := ll_sr κ g (fun x => if x = v then true else gRev κ g x)
abbrev apOk (κ : ll_K) (p l b : Nat) : Prop := ¬ lAll κ l < pWorth κ p ∧ sLand κ b = l ∧ sRest κ b = 0
def k_appeal (κ : ll_K) (p l : Nat) : ll_K := ll_sn (ll_so (ll_so (ll_sz κ 5 l (lFin κ l - pWorth κ p)) 2 p none) 1 p (pBy κ p)) 4 p 2
def c_appeal (κ : ll_K) (p : Int32) : Nat := if inN p (nP κ) then (if pFate κ (tN p) = 3 ∧ ¬ pStore κ (tN p) = none then 0 else 2) else 1
