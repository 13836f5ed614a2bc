/-! ===== jx: rows for numbers that are naturals, for truth values, for calls that change nothing ===== -/
def jd_b (P : Prop) [Decidable P] : Int32 := if P then 1 else 0
theorem jd_b1 {P : Prop} [Decidable P] (h : P) : jd_b P = 1 := if_pos h
theorem jd_b0 {P : Prop} [Decidable P] (h : ¬ P) : jd_b P = 0 := if_neg h
theorem jd_b01 (P : Prop) [Decidable P] : jd_b P = 0 ∨ jd_b P = 1 := by
  unfold jd_b; split
  · exact Or.inr rfl
  · exact Or.inl rfl
theorem jd_bz {P : Prop} [Decidable P] : jd_b P = 0 ↔ ¬ P := by
  unfold jd_b; split
  · next h => exact ⟨fun e => absurd e (by decide), fun e => absurd h e⟩
  · next h => exact ⟨fun _ => h, fun _ => rfl⟩
theorem jd_bcong {P P' : Prop} [Decidable P] [Decidable P'] (h : P ↔ P') : jd_b P = jd_b P' := by
  by_cases hp : P
  · rw [jd_b1 hp, jd_b1 (h.mp hp)]
  · rw [jd_b0 hp, jd_b0 (fun z => hp (h.mpr z))]
theorem jd_band (P P' : Prop) [Decidable P] [Decidable P'] : jd_b P &&& jd_b P' = jd_b (P ∧ P') := by
  by_cases h : P <;> by_cases h' : P' <;> simp [jd_b, h, h']
theorem jd_bor (P P' : Prop) [Decidable P] [Decidable P'] : jd_b P ||| jd_b P' = jd_b (P ∨ P') := by
  by_cases h : P <;> by_cases h' : P' <;> simp [jd_b, h, h']
section JX
variable {G : jd_G} {M M' : jd_M} {d d' cb cb' sb sb' pc idx : Nat} {ls ls' : List (Option Value)} {st rest As : List Value} {h : jd_H} {Q Q' : Option Value → jd_H → Prop} {X X' : String → jd_H → Prop}
theorem jd_gen (P : jd_H → Prop) (hp : P h) (k : ∀ h', P h' → jd_W G M d cb sb pc ls st h' Q X) : jd_W G M d cb sb pc ls st h Q X := k h hp
theorem jd_top {v w : Value} (e : v = w) (k : jd_W G M d cb sb pc ls (w :: st) h Q X) : jd_W G M d cb sb pc ls (v :: st) h Q X := e ▸ k
theorem jd_lcl (ls2 : List (Option Value)) (e : ls = ls2) (k : jd_W G M d cb sb pc ls2 st h Q X) : jd_W G M d cb sb pc ls st h Q X := e ▸ k
theorem jd_mg1 (pc' : Nat) (v : Value) {x : Value} (arms : jd_W G M d cb sb pc' ls (v :: st) h Q X → jd_W G M d cb sb pc ls (x :: st) h Q X) (k : jd_W G M d cb sb pc' ls (v :: st) h Q X) : jd_W G M d cb sb pc ls (x :: st) h Q X := arms k
theorem jd_mg2 (pc' : Nat) (v : Value) {x y : Value} (arms : jd_W G M d cb sb pc' ls (v :: st) h Q X → jd_W G M d cb sb pc ls (x :: y :: st) h Q X) (k : jd_W G M d cb sb pc' ls (v :: st) h Q X) : jd_W G M d cb sb pc ls (x :: y :: st) h Q X := arms k
theorem jd_iincN {i a : Nat} {n : Nat} (dc : decode M.2.2.1 pc = .ok (.iinc i (n : Int), 3)) (hx : ls[i]? = some (some (.int (nI a)))) (hn : i < M.2.2.2.1) (hc : jd_c2 ls i = true) (hls : ls.set i (some (.int (nI (a + n)))) = ls') (k : jd_W G M d cb sb (pc + 3) ls' st h Q X) : jd_W G M d cb sb pc ls st h Q X :=
  jd_iinc dc hx (by rw [← nI_add]; rfl) hn hc hls k
theorem jd_iaddN {a b : Nat} (dc : decode M.2.2.1 pc = .ok (.iadd, 1)) (k : jd_W G M d cb sb (pc + 1) ls (.int (nI (a + b)) :: st) h Q X) : jd_W G M d cb sb pc ls (.int (nI b) :: .int (nI a) :: st) h Q X :=
  jd_iadd dc (by rw [nI_add]; exact k)
theorem jd_isubN {a b : Nat} (dc : decode M.2.2.1 pc = .ok (.isub, 1)) (hb : b ≤ a) (k : jd_W G M d cb sb (pc + 1) ls (.int (nI (a - b)) :: st) h Q X) : jd_W G M d cb sb pc ls (.int (nI b) :: .int (nI a) :: st) h Q X :=
  jd_isub dc (by rw [pk_sub hb]; exact k)
theorem jd_imulN {a b : Nat} (dc : decode M.2.2.1 pc = .ok (.imul, 1)) (k : jd_W G M d cb sb (pc + 1) ls (.int (nI (a * b)) :: st) h Q X) : jd_W G M d cb sb pc ls (.int (nI b) :: .int (nI a) :: st) h Q X :=
  jd_imul dc (by rw [pk_mul]; exact k)
/-- a truth value is tested -/
theorem jd_bif_eq {P : Prop} [Decidable P] {off : Int} {tgt : Nat} (dc : decode M.2.2.1 pc = .ok (.ifCond .eq off, 3)) (ht : (pc : Int) + off = (tgt : Int)) (kt : ¬ P → jd_W G M d cb sb tgt ls st h Q X) (kf : P → jd_W G M d cb sb (pc + 3) ls st h Q X) : jd_W G M d cb sb pc ls (.int (jd_b P) :: st) h Q X :=
  jd_if_eq dc ht (fun z => kt (jd_bz.mp z)) (fun z => kf (Decidable.not_not.mp (fun w => z (jd_bz.mpr w))))
theorem jd_bif_ne {P : Prop} [Decidable P] {off : Int} {tgt : Nat} (dc : decode M.2.2.1 pc = .ok (.ifCond .ne off, 3)) (ht : (pc : Int) + off = (tgt : Int)) (kt : P → jd_W G M d cb sb tgt ls st h Q X) (kf : ¬ P → jd_W G M d cb sb (pc + 3) ls st h Q X) : jd_W G M d cb sb pc ls (.int (jd_b P) :: st) h Q X :=
  jd_if_ne dc ht (fun z => kt (Decidable.not_not.mp (fun w => z (jd_bz.mpr w)))) (fun z => kf (jd_bz.mp z))
/-- calls that change nothing -/
theorem jd_pS {v : Value} (hC : jd_Ct G M' d' 0 0 As h (jd_pu h v) jd_no) (hh : M'.2.2.2.2.2 = []) (q1 : Cond.methodLink M.1 idx M'.2.1 ∈ lw_all) (q2 : Cond.static M'.2.1 ∈ lw_all) (q3 : Cond.initialized M'.2.1.cls ∈ lw_all) (q4 : Cond.code M'.2.1 M'.2.2.1 M'.2.2.2.1 M'.2.2.2.2.1 ∈ lw_all) {n : Nat} (hn : jd_N M'.2.1 n) (dc : decode M.2.2.1 pc = .ok (.invokestatic idx, 3)) (hlen : As.length = n) (hst : st = As.reverse ++ rest) (hw : (rest.map fun v => v.category).sum ≤ 8) (hb : d' + 1 ≤ d ∧ M'.2.2.2.1 ≤ 80)
    (kk : jd_W G M d cb sb (pc + 3) ls (v :: rest) h Q X) : jd_W G M d cb sb pc ls st h Q X :=
  jd_callS hC hh q1 q2 q3 q4 hn dc hlen hst hw ⟨hb.1, hb.2, Nat.zero_le _, Nat.zero_le _⟩ (fun v' h' e => by obtain ⟨rfl, rfl⟩ := e; exact kk) jd_nox
theorem jd_pV {a : Nat} {Cn : String} {v : Value} (hC : jd_Ct G M' d' 0 0 (.ref a :: As) h (jd_pu h v) jd_no) (hv : jd_Rv G h Cn a) (hh : M'.2.2.2.2.2 = []) (q1 : Cond.methodLink M.1 idx M'.2.1 ∈ lw_all) (q2 : Cond.instanceMethod M'.2.1 ∈ lw_all) (q3 : Cond.selects Cn M'.2.1 M'.2.1 ∈ lw_all) (q4 : Cond.initialized Cn ∈ lw_all) (q5 : Cond.code M'.2.1 M'.2.2.1 M'.2.2.2.1 M'.2.2.2.2.1 ∈ lw_all) {n : Nat} (hn : jd_N M'.2.1 n) (dc : decode M.2.2.1 pc = .ok (.invokevirtual idx, 3)) (hcn : M'.2.1.cls = Cn) (hlen : As.length = n) (hst : st = As.reverse ++ .ref a :: rest) (hw : (rest.map fun v => v.category).sum ≤ 8) (hb : d' + 1 ≤ d ∧ M'.2.2.2.1 ≤ 80)
    (kk : jd_W G M d cb sb (pc + 3) ls (v :: rest) h Q X) : jd_W G M d cb sb pc ls st h Q X :=
  jd_callV hC hv hh q1 q2 q3 q4 q5 hn dc hcn hlen hst hw ⟨hb.1, hb.2, Nat.zero_le _, Nat.zero_le _⟩ (fun v' h' e => by obtain ⟨rfl, rfl⟩ := e; exact kk) jd_nox
theorem jd_pF {a count ci : Nat} {Cn : String} {T : u_T} {N : Nat} {x : MethodName} {v : Value} (hC : jd_Ct G M' d' 0 0 (.ref a :: As) h (jd_pu h v) jd_no) (hv : jd_Rv G h Cn a) (hci : jd_cl[ci]? = some (Cn, T, N)) (hx : x ∈ jd_ifs) (hh : M'.2.2.2.2.2 = []) (q1 : Cond.methodLink M.1 idx x ∈ lw_all) (q2 : Cond.selects Cn x M'.2.1 ∈ lw_all) (q3 : Cond.instanceMethod M'.2.1 ∈ lw_all) (q4 : Cond.initialized M'.2.1.cls ∈ lw_all) (q5 : Cond.code M'.2.1 M'.2.2.1 M'.2.2.2.1 M'.2.2.2.2.1 ∈ lw_all) (q6 : Cond.declares x ∈ lw_tbl) (q7 : Cond.publicMethod M'.2.1 ∈ lw_tbl) (q8 : Cond.unhidden Cn x.name x.desc ∈ lw_tbl) (q9 : Cond.castable Cn x.cls ∈ lw_tbl) {n : Nat} (hn : jd_N x n) (dc : decode M.2.2.1 pc = .ok (.invokeinterface idx count, 5)) (hlen : As.length = n) (hst : st = As.reverse ++ .ref a :: rest) (hw : (rest.map fun v => v.category).sum ≤ 8) (hb : d' + 1 ≤ d ∧ M'.2.2.2.1 ≤ 80)
    (kk : jd_W G M d cb sb (pc + 5) ls (v :: rest) h Q X) : jd_W G M d cb sb pc ls st h Q X :=
  jd_callF hC hv hci hx hh q1 q2 q3 q4 q5 q6 q7 q8 q9 hn dc hlen hst hw ⟨hb.1, hb.2, Nat.zero_le _, Nat.zero_le _⟩ (fun v' h' e => by obtain ⟨rfl, rfl⟩ := e; exact kk) jd_nox
theorem jd_pU {a : Nat} {Cn : String} {x : MethodName} {v : Value} (hC : jd_Ct G M' d' 0 0 (.ref a :: As) h (jd_pu h v) jd_no) (hv : jd_Rv G h Cn a) (hh : M'.2.2.2.2.2 = []) (q1 : Cond.methodLink M.1 idx x ∈ lw_all) (q2 : Cond.sameMethod x.cls M'.2.1.cls x.name x.desc ∈ lw_all) (q3 : Cond.selects Cn x M'.2.1 ∈ lw_all) (q4 : Cond.instanceMethod M'.2.1 ∈ lw_all) (q6 : Cond.initialized M'.2.1.cls ∈ lw_all) (q5 : Cond.code M'.2.1 M'.2.2.1 M'.2.2.2.1 M'.2.2.2.2.1 ∈ lw_all) {n : Nat} (hn : M'.2.1.cls ≠ "java/lang/invoke/MethodHandle" ∧ M'.2.1.cls ≠ "java/lang/invoke/VarHandle" ∧ (parseMethodDescriptor x.desc).map (fun d => d.parameters.length) = some n) (hyx : M'.2.1 = ⟨M'.2.1.cls, x.name, x.desc⟩) (dc : decode M.2.2.1 pc = .ok (.invokevirtual idx, 3)) (hlen : As.length = n) (hst : st = As.reverse ++ .ref a :: rest) (hw : (rest.map fun v => v.category).sum ≤ 8) (hb : d' + 1 ≤ d ∧ M'.2.2.2.1 ≤ 80)
    (kk : jd_W G M d cb sb (pc + 3) ls (v :: rest) h Q X) : jd_W G M d cb sb pc ls st h Q X :=
  jd_callU hC hv hh q1 q2 q3 q4 q6 q5 hn hyx dc hlen hst hw ⟨hb.1, hb.2, Nat.zero_le _, Nat.zero_le _⟩ (fun v' h' e => by obtain ⟨rfl, rfl⟩ := e; exact kk) jd_nox
end JX
/-- the locals ls2 are among the locals ls -/
def jd_sub : List (Option Value) → List (Option Value) → Prop
  | [], _ => True
  | none :: r, _ :: s => jd_sub r s
  | some v :: r, x :: s => x = some v ∧ jd_sub r s
  | none :: r, [] => jd_sub r []
  | some _ :: _, [] => False
theorem jd_sub_ok : ∀ {l2 l : List (Option Value)}, jd_sub l2 l → ∀ (i : Nat) (v : Value), l2[i]? = some (some v) → l[i]? = some (some v)
  | [], _, _, i, v, h => by simp at h
  | none :: r, x :: s, hs, 0, v, h => by simp at h
  | none :: r, x :: s, hs, i + 1, v, h => by
    rw [List.getElem?_cons_succ] at h ⊢
    exact jd_sub_ok (l2 := r) (l := s) hs i v h
  | some w :: r, x :: s, hs, 0, v, h => by
    simp at h
    subst h
    have := hs.1
    simp [this]
  | some w :: r, x :: s, hs, i + 1, v, h => by
    rw [List.getElem?_cons_succ] at h ⊢
    exact jd_sub_ok (l2 := r) (l := s) hs.2 i v h
  | none :: r, [], hs, 0, v, h => by simp at h
  | none :: r, [], hs, i + 1, v, h => by
    rw [List.getElem?_cons_succ] at h
    have := jd_sub_ok (l2 := r) (l := []) hs i v h
    simp at this
  | some _ :: _, [], hs, _, _, _ => hs.elim
theorem jd_lsub {G : jd_G} {M : jd_M} {d cb sb pc : Nat} {ls : List (Option Value)} {st : List Value} {h : jd_H} {Q : Option Value → jd_H → Prop} {X : String → jd_H → Prop} (ls2 : List (Option Value)) (hs : jd_sub ls2 ls) (k : jd_W G M d cb sb pc ls2 st h Q X) : jd_W G M d cb sb pc ls st h Q X := jd_ls (jd_sub_ok hs) k
theorem jd_si {x y : Int32} (e : x = y) : (some (.int x) : Option Value) = some (.int y) := by rw [e]
theorem jd_sr {x y : Nat} (e : x = y) : (some (.ref x) : Option Value) = some (.ref y) := by rw [e]
theorem jd_nif_eq {G : jd_G} {M : jd_M} {d cb sb pc : Nat} {ls : List (Option Value)} {st : List Value} {h : jd_H} {Q : Option Value → jd_H → Prop} {X : String → jd_H → Prop} {a : Nat} {off : Int} {tgt : Nat} (dc : decode M.2.2.1 pc = .ok (.ifCond .eq off, 3)) (ht : (pc : Int) + off = (tgt : Int)) (ha : a < 2 ^ 31) (kt : a = 0 → jd_W G M d cb sb tgt ls st h Q X) (kf : a ≠ 0 → jd_W G M d cb sb (pc + 3) ls st h Q X) : jd_W G M d cb sb pc ls (.int (nI a) :: st) h Q X :=
  jd_if_eq dc ht (fun z => kt ((nI_eq ha (by decide)).mp z)) (fun z => kf (fun w => z ((nI_eq ha (by decide)).mpr w)))
theorem jd_nif_ne {G : jd_G} {M : jd_M} {d cb sb pc : Nat} {ls : List (Option Value)} {st : List Value} {h : jd_H} {Q : Option Value → jd_H → Prop} {X : String → jd_H → Prop} {a : Nat} {off : Int} {tgt : Nat} (dc : decode M.2.2.1 pc = .ok (.ifCond .ne off, 3)) (ht : (pc : Int) + off = (tgt : Int)) (ha : a < 2 ^ 31) (kt : a ≠ 0 → jd_W G M d cb sb tgt ls st h Q X) (kf : a = 0 → jd_W G M d cb sb (pc + 3) ls st h Q X) : jd_W G M d cb sb pc ls (.int (nI a) :: st) h Q X :=
  jd_if_ne dc ht (fun z => kt (fun w => z ((nI_eq ha (by decide)).mpr w))) (fun z => kf ((nI_eq ha (by decide)).mp z))
theorem jd_nif_lt {G : jd_G} {M : jd_M} {d cb sb pc : Nat} {ls : List (Option Value)} {st : List Value} {h : jd_H} {Q : Option Value → jd_H → Prop} {X : String → jd_H → Prop} {a : Nat} {off : Int} (dc : decode M.2.2.1 pc = .ok (.ifCond .lt off, 3)) {tgt : Nat} (ht : (pc : Int) + off = (tgt : Int)) (ha : a < 2 ^ 31) (kf : jd_W G M d cb sb (pc + 3) ls st h Q X) : jd_W G M d cb sb pc ls (.int (nI a) :: st) h Q X :=
  jd_if_lt dc ht (fun z => absurd z (nI_pos ha)) (fun _ => kf)
theorem jd_nif_gt {G : jd_G} {M : jd_M} {d cb sb pc : Nat} {ls : List (Option Value)} {st : List Value} {h : jd_H} {Q : Option Value → jd_H → Prop} {X : String → jd_H → Prop} {a : Nat} {off : Int} {tgt : Nat} (dc : decode M.2.2.1 pc = .ok (.ifCond .gt off, 3)) (ht : (pc : Int) + off = (tgt : Int)) (ha : a < 2 ^ 31) (kt : 0 < a → jd_W G M d cb sb tgt ls st h Q X) (kf : a = 0 → jd_W G M d cb sb (pc + 3) ls st h Q X) : jd_W G M d cb sb pc ls (.int (nI a) :: st) h Q X :=
  jd_if_gt dc ht (fun z => kt (by have := (nI_ltI (a := 0) (by decide) ha).mp z; omega)) (fun z => kf (by
    rcases Nat.eq_zero_or_pos a with e | e
    · exact e
    · exact absurd ((nI_ltI (a := 0) (by decide) ha).mpr e) z))
theorem jd_nif_le {G : jd_G} {M : jd_M} {d cb sb pc : Nat} {ls : List (Option Value)} {st : List Value} {h : jd_H} {Q : Option Value → jd_H → Prop} {X : String → jd_H → Prop} {a : Nat} {off : Int} {tgt : Nat} (dc : decode M.2.2.1 pc = .ok (.ifCond .le off, 3)) (ht : (pc : Int) + off = (tgt : Int)) (ha : a < 2 ^ 31) (kt : a = 0 → jd_W G M d cb sb tgt ls st h Q X) (kf : 0 < a → jd_W G M d cb sb (pc + 3) ls st h Q X) : jd_W G M d cb sb pc ls (.int (nI a) :: st) h Q X :=
  jd_if_le dc ht (fun z => kt (by have := (nI_leI (b := 0) ha (by decide)).mp z; omega)) (fun z => kf (by
    rcases Nat.eq_zero_or_pos a with e | e
    · exact absurd ((nI_leI (b := 0) ha (by decide)).mpr (by omega)) z
    · exact e))
theorem jd_nif_ge {G : jd_G} {M : jd_M} {d cb sb pc : Nat} {ls : List (Option Value)} {st : List Value} {h : jd_H} {Q : Option Value → jd_H → Prop} {X : String → jd_H → Prop} {a : Nat} {off : Int} {tgt : Nat} (dc : decode M.2.2.1 pc = .ok (.ifCond .ge off, 3)) (ht : (pc : Int) + off = (tgt : Int)) (ha : a < 2 ^ 31) (kt : jd_W G M d cb sb tgt ls st h Q X) : jd_W G M d cb sb pc ls (.int (nI a) :: st) h Q X :=
  jd_if_ge dc ht (fun _ => kt) (fun z => absurd (nI_pos' ha) z)
