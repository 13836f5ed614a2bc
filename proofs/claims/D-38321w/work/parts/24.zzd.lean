/-! ===== zzd: the ends of acts ===== -/
/-- like jd_eh, and the pass of s is gone -/
def jd_ec (G : jd_G) (β : ll_B) (s : Nat) (κ' : ll_K) (h : jd_H) (v : Option Value) : Option Value → jd_H → Prop := fun r h2 => r = v ∧ (∃ b : Nat → Nat, WC G (ll_bu (ll_b9 β b) 6 s (jd_k G 1)) κ' h2) ∧ ∀ j : jd_Id, 20 ≤ j.1 → h2 j = h j
