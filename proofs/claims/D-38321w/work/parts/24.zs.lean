/-! ===== zs: the checksum ===== -/
abbrev sumE (T : Int64) : jd_E := .inl (.inr (8, [.long T]))
def ll_fd (f : Nat → Int32) (t : Int64) : Nat → Int64
  | 0 => t
  | n + 1 => ll_fd f t n * 31 + (f n).toInt64
def dgLands (κ : ll_K) (t : Int64) : Nat → Int64
  | 0 => t
  | l + 1 => ll_fd (fun w => landVal κ l w) (dgLands κ t l) 9
def dgGates (κ : ll_K) (t : Int64) : Nat → Int64
  | 0 => t
  | g + 1 => ll_fd (fun w => gateVal κ g (2 + w)) (dgGates κ t g) 8 * 31 + (wouldPay κ g).toInt64
noncomputable def dgSl (κ : ll_K) (t : Int64) : Nat → Int64
  | 0 => t
  | s + 1 => ll_fd (fun w => sleeperVal κ s w) (dgSl κ t s) 9
def dgPt (κ : ll_K) (t : Int64) : Nat → Int64
  | 0 => t
  | p + 1 => ll_fd (fun w => partVal κ p (3 + w)) (dgPt κ t p) 3
noncomputable def dg1 (κ : ll_K) : Int64 := dgPt κ (dgSl κ (dgGates κ (dgLands κ (ll_fd (fun w => nightVal κ w) 6007 17) 6) (nG κ)) (nS κ)) (nP κ)
noncomputable def digestV (κ : ll_K) : Int64 := (ll_fd (fun l => wayN κ 0 l) (dg1 κ) 6 * 31 + (planVal κ 20 none).toInt64) * 31 + 1
theorem up2 {h : jd_H} {q q2 : Nat} {x y z : Nat × jd_E} (hn : ((0, q) : jd_Id) ≠ (0, q2)) : jd_up (jd_up (jd_up h (0, q) x) (0, q2) y) (0, q) z = jd_up (jd_up h (0, q) z) (0, q2) y := by
  rw [jd_up_cm (Ne.symm hn), jd_up_up]
theorem up2_n {h : jd_H} {q q2 : Nat} {x : Nat × jd_E} (hq2 : jd_up h (0, q) x (0, q2) = none) {z : Nat × jd_E} : jd_up h (0, q) z (0, q2) = none := by
  have hn : ((0, q2) : jd_Id) ≠ (0, q) := fun e => by rw [e, jd_up_s] at hq2; cases hq2
  rw [jd_up_n hn] at hq2 ⊢
  exact hq2
theorem up2_ne {h : jd_H} {q q2 : Nat} {x : Nat × jd_E} (hq2 : jd_up h (0, q) x (0, q2) = none) : ((0, q) : jd_Id) ≠ (0, q2) := fun e => by rw [← e, jd_up_s] at hq2; cases hq2
