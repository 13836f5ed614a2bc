/-! ===== zy: what acts are made of ===== -/
/-- answered with v, the state is κ' (inside an act) -/
def jd_ef (G : jd_G) (β : ll_B) (κ' : ll_K) (h : jd_H) (v : Option Value) : Option Value → jd_H → Prop := fun r h2 => r = v ∧ WC G β κ' h2 ∧ ∀ j : jd_Id, 20 ≤ j.1 → h2 j = h j
def k_lie (κ : ll_K) (s : Nat) : ll_K := ll_sz (ll_so (ll_sn κ 3 s 0) 0 s none) 12 s 0
def k_keep (κ : ll_K) (p l f : Nat) : ll_K := ll_sn (ll_so (ll_so κ 1 p none) 2 p (some l)) 4 p f
def k_draw (κ : ll_K) : ll_K := ll_sz (ll_sz κ 6 3 (jd_rem (21 * rNext κ + 11) 4096)) 6 4 (rDrawn κ + 1)
/-- the addresses of hidings are others -/
def ll_b9 (β : ll_B) (b : Nat → Nat) : ll_B := fun f j => if f = 9 then b j else β f j
theorem ll_b9_id {β : ll_B} : ll_b9 β (β 9) = β := by
  funext f j
  unfold ll_b9
  split
  · next e => rw [e]
  · rfl
theorem ll_b9_b9 {β : ll_B} {b c : Nat → Nat} : ll_b9 (ll_b9 β b) c = ll_b9 β c := by
  funext f j
  unfold ll_b9
  split <;> rfl
theorem ll_bu9 {β : ll_B} {k q : Nat} : ll_bu β 9 k q = ll_b9 β (ll_bu β 9 k q 9) := by
  funext f j
  unfold ll_b9
  split
  · next e => rw [e]
  · next e => exact ll_bu_n (fun z => e z.1)
def k_hide (κ : ll_K) (s p : Nat) : ll_K := ll_sh (ll_so κ 3 p (some s)) (if (hids κ).length < 40 then hids κ ++ [(s, pDream κ p, nNight κ)] else hids κ)
/-- like jd_ef, but there may be new hidings -/
def jd_eh (G : jd_G) (β : ll_B) (κ' : ll_K) (h : jd_H) (v : Option Value) : Option Value → jd_H → Prop := fun r h2 => r = v ∧ (∃ b : Nat → Nat, WC G (ll_b9 β b) κ' h2) ∧ ∀ j : jd_Id, 20 ≤ j.1 → h2 j = h j
