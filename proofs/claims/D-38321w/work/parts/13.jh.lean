/-! ===== jh: rows that read and write the heap ===== -/
section JH
variable {G : jd_G} {M : jd_M} {d cb sb pc : Nat} {ls ls' : List (Option Value)} {st : List Value} {h : jd_H} {Q : Option Value → jd_H → Prop} {X : String → jd_H → Prop}
theorem jd_aret {a : Nat} (dc : decode M.2.2.1 pc = .ok (.areturn, 1)) (hr : (∃ n, M.2.2.2.2.1 = some (.object n)) ∨ ∃ t, M.2.2.2.2.1 = some (.array t)) (hq : Q (some (.ref a)) h) : jd_W G M d cb sb pc ls [.ref a] h Q X := by
  intro p l e R s m args below meth c H locs cells slots la C h1 h2 hP hS hl
  refine W.widen (k := R.cells) (n := R.slots) (by omega) (by omega) (vx_ret ?_)
  rcases hr with ⟨n, e⟩ | ⟨t, e⟩
  · exact W.aret C.1 C.2.1 (C.2.2.2.1.trans e) (Or.inl ⟨n, rfl⟩) (Or.inr ⟨a, rfl⟩) (fun t ht hW => ⟨_, h, rfl, hq, by rw [ht]; exact hP, hS.F ht⟩) hS.2.2 dc C.2.2.2.2.1
  · exact W.aret C.1 C.2.1 (C.2.2.2.1.trans e) (Or.inr ⟨t, rfl⟩) (Or.inr ⟨a, rfl⟩) (fun t ht hW => ⟨_, h, rfl, hq, by rw [ht]; exact hP, hS.F ht⟩) hS.2.2 dc C.2.2.2.2.1
variable {i : jd_Id} {a ci N idx : Nat} {Cn : String} {T : u_T} {fs fs' : List Value} {v : Value}
theorem jd_get (hin : ∀ w ∈ u_ws Cn T N, w ∈ lw_all) (ho : h i = some (a, .inl (.inr (ci, fs)))) (k : Nat) (q : Cond.fieldLink M.1 idx (T k).1 (T k).2.1 (T k).2.2.1 ∈ lw_all) (dc : decode M.2.2.1 pc = .ok (.getfield idx, 3)) (hc : jd_cl[ci]? = some (Cn, T, N)) (hk : k < N) (hv : fs[k]? = some v) (kk : jd_W G M d cb sb (pc + 3) ls (v :: st) h Q X) : jd_W G M d cb sb pc ls (.ref a :: st) h Q X := by
  intro p l e R s m args below meth c H locs cells slots la C h1 h2 hP hS hl
  have hts := C.2.2.2.2.2.2.2.1
  exact va_get C.1 C.2.1 hts hin C.2.2.2.2.2.2.1 C.2.2.2.2.2.2.2.2.1.1.1 (jd_one (hP.at ho)) 0 rfl hc k hk (hts _ q) (fun _ h => h) hv dc (kk p l e R s m args below meth c H locs cells slots la C h1 h2 hP hS hl)
theorem jd_getS {ref : String} (hin : ∀ w ∈ u_ws Cn T N, w ∈ lw_all) (ho : h i = some (a, .inl (.inr (ci, fs)))) (k : Nat) (q : Cond.fieldLink M.1 idx ref (T k).2.1 (T k).2.2.1 ∈ lw_all) (qs : Cond.sameField ref (T k).1 (T k).2.1 (T k).2.2.1 ∈ lw_all) (dc : decode M.2.2.1 pc = .ok (.getfield idx, 3)) (hc : jd_cl[ci]? = some (Cn, T, N)) (hk : k < N) (hv : fs[k]? = some v) (kk : jd_W G M d cb sb (pc + 3) ls (v :: st) h Q X) : jd_W G M d cb sb pc ls (.ref a :: st) h Q X := by
  intro p l e R s m args below meth c H locs cells slots la C h1 h2 hP hS hl
  have hts := C.2.2.2.2.2.2.2.1
  exact va_get C.1 C.2.1 hts hin C.2.2.2.2.2.2.1 C.2.2.2.2.2.2.2.2.1.1.1 (jd_one (hP.at ho)) 0 rfl hc k hk (hts _ q) (u_same (hts _ qs)) hv dc (kk p l e R s m args below meth c H locs cells slots la C h1 h2 hP hS hl)
theorem jd_getN {host : String} (hin : ∀ w ∈ u_ws Cn T N, w ∈ lw_all) (ho : h i = some (a, .inl (.inr (ci, fs)))) (k : Nat) (q : Cond.fieldLinkNest M.1 idx (T k).1 (T k).2.1 (T k).2.2.1 host ∈ lw_tbl) (dc : decode M.2.2.1 pc = .ok (.getfield idx, 3)) (hc : jd_cl[ci]? = some (Cn, T, N)) (hk : k < N) (hv : fs[k]? = some v) (kk : jd_W G M d cb sb (pc + 3) ls (v :: st) h Q X) : jd_W G M d cb sb pc ls (.ref a :: st) h Q X := by
  intro p l e R s m args below meth c H locs cells slots la C h1 h2 hP hS hl
  have hts := C.2.2.2.2.2.2.2.1
  exact va_getN C.1 C.2.1 hts hin C.2.2.2.2.2.2.1 C.2.2.2.2.2.2.2.2.1.1.1 (jd_one (hP.at ho)) 0 rfl hc k hk (va_Nw.use rfl (C.2.2.2.2.2.2.2.2.1.1.2.1 _ q rfl)) (fun _ h => h) hv dc (kk p l e R s m args below meth c H locs cells slots la C h1 h2 hP hS hl)
theorem jd_put0 {ref : String} {ty0 : Nat → FieldType} (hin : ∀ w ∈ u_ws Cn T N, w ∈ lw_all) (hty : ∀ k, k < N → parseFieldDescriptor (T k).2.2.1 = some (ty0 k)) (hnm : ∀ a, a < N → ∀ b, b < N → a ≠ b → (T a).2.1 ≠ (T b).2.1) (ho : h i = some (a, .inl (.inr (ci, fs)))) (k : Nat) (q : Cond.fieldLink M.1 idx ref (T k).2.1 (T k).2.2.1 ∈ lw_all) (qs : ∀ s : State, ∀ args : Array Value, (∀ w ∈ lw_all, w.before args s = true) → ∀ x, s.fieldFound? (T k).1 (T k).2.1 (T k).2.2.1 = some x → s.fieldFound? ref (T k).2.1 (T k).2.2.1 = some x) (dc : decode M.2.2.1 pc = .ok (.putfield idx, 3)) (hc : jd_cl[ci]? = some (Cn, T, N)) (hk : k < N) (hfin : (T k).2.2.2 = false) (hn : narrow (ty0 k) v = v) (hfit : fits (ty0 k) v = true) (hlen : k < fs.length) (hfs : fs.set k v = fs')
    (kk : jd_W G M d cb sb (pc + 3) ls st (jd_up h i (a, .inl (.inr (ci, fs')))) Q X) : jd_W G M d cb sb pc ls (v :: .ref a :: st) h Q X := by
  subst hfs
  intro p l e R s m args below meth c H locs cells slots la C h1 h2 hP hS hl
  have hts := C.2.2.2.2.2.2.2.1
  have hK := C.2.2.2.2.2.2.2.2.1.1.1
  have hown := C.2.2.2.2.2.2.1
  have hap := va_apart (own := M.1) hts hin ty0 hty hnm hK hc
  obtain ⟨r, e1, cell, q1, q2, q3, q4⟩ := hP.at ho
  have hr : r = (Cn, T, N) := Option.some.inj (e1.symm.trans hc)
  subst hr
  obtain ⟨hS', hfc, kC, hkC, hkind⟩ := hK.1 ci _ hc
  obtain ⟨cf, kf, fi, f, hi, hsl⟩ := hS' k hk
  have hlay := hts _ (hin _ (u_in_lay hk))
  unfold u_lay at hlay
  rw [if_neg (by rw [hfin]; decide)] at hlay
  have hst := (u_facts hfc hkC (u_lays hts hin hk) hi).1
  have h6 := u_store hfc hkC hkind hlay hi (hty k hk) hn hfit
  refine W.putK C.1 C.2.1 (f := f) ⟨hown, hts _ q, ⟨_, _, _, qs _ _ hts _ hi⟩, hst⟩ (by rw [q2]; exact h6) q1 q3 (by rw [hsl]; exact k2_hasslot (q4 k hk)) rfl rfl dc fun H' e1 e2 e3 => ?_
  rw [hsl] at e1 ⊢
  exact kk p l e R s m args below meth c H' _ cells slots la C h1 h2 (hP.wr ho ⟨_, hc, t_OB.to (V := updV (vp_V fs) k v) ⟨_, e1, q2, q3, t_set q4 hap hk v⟩ (fun j _ => vp_updV_set hlen v j)⟩ e3) (hS.put e2 e3 (hP.lo ho)) hl
theorem jd_put {ty0 : Nat → FieldType} (hin : ∀ w ∈ u_ws Cn T N, w ∈ lw_all) (hty : ∀ k, k < N → parseFieldDescriptor (T k).2.2.1 = some (ty0 k)) (hnm : ∀ a, a < N → ∀ b, b < N → a ≠ b → (T a).2.1 ≠ (T b).2.1) (ho : h i = some (a, .inl (.inr (ci, fs)))) (k : Nat) (q : Cond.fieldLink M.1 idx (T k).1 (T k).2.1 (T k).2.2.1 ∈ lw_all) (dc : decode M.2.2.1 pc = .ok (.putfield idx, 3)) (hc : jd_cl[ci]? = some (Cn, T, N)) (hk : k < N) (hfin : (T k).2.2.2 = false) (hn : narrow (ty0 k) v = v) (hfit : fits (ty0 k) v = true) (hlen : k < fs.length) (hfs : fs.set k v = fs')
    (kk : jd_W G M d cb sb (pc + 3) ls st (jd_up h i (a, .inl (.inr (ci, fs')))) Q X) : jd_W G M d cb sb pc ls (v :: .ref a :: st) h Q X :=
  jd_put0 hin hty hnm ho k q (fun _ _ _ _ h => h) dc hc hk hfin hn hfit hlen hfs kk
theorem jd_putS {ref : String} {ty0 : Nat → FieldType} (hin : ∀ w ∈ u_ws Cn T N, w ∈ lw_all) (hty : ∀ k, k < N → parseFieldDescriptor (T k).2.2.1 = some (ty0 k)) (hnm : ∀ a, a < N → ∀ b, b < N → a ≠ b → (T a).2.1 ≠ (T b).2.1) (ho : h i = some (a, .inl (.inr (ci, fs)))) (k : Nat) (q : Cond.fieldLink M.1 idx ref (T k).2.1 (T k).2.2.1 ∈ lw_all) (qs : Cond.sameField ref (T k).1 (T k).2.1 (T k).2.2.1 ∈ lw_all) (dc : decode M.2.2.1 pc = .ok (.putfield idx, 3)) (hc : jd_cl[ci]? = some (Cn, T, N)) (hk : k < N) (hfin : (T k).2.2.2 = false) (hn : narrow (ty0 k) v = v) (hfit : fits (ty0 k) v = true) (hlen : k < fs.length) (hfs : fs.set k v = fs')
    (kk : jd_W G M d cb sb (pc + 3) ls st (jd_up h i (a, .inl (.inr (ci, fs')))) Q X) : jd_W G M d cb sb pc ls (v :: .ref a :: st) h Q X :=
  jd_put0 hin hty hnm ho k q (fun _ _ hts => u_same (hts _ qs)) dc hc hk hfin hn hfit hlen hfs kk
theorem jd_putN {host : String} {ty0 : Nat → FieldType} (hin : ∀ w ∈ u_ws Cn T N, w ∈ lw_all) (hty : ∀ k, k < N → parseFieldDescriptor (T k).2.2.1 = some (ty0 k)) (hnm : ∀ a, a < N → ∀ b, b < N → a ≠ b → (T a).2.1 ≠ (T b).2.1) (ho : h i = some (a, .inl (.inr (ci, fs)))) (k : Nat) (q : Cond.fieldLinkNest M.1 idx (T k).1 (T k).2.1 (T k).2.2.1 host ∈ lw_tbl) (dc : decode M.2.2.1 pc = .ok (.putfield idx, 3)) (hc : jd_cl[ci]? = some (Cn, T, N)) (hk : k < N) (hfin : (T k).2.2.2 = false) (hn : narrow (ty0 k) v = v) (hfit : fits (ty0 k) v = true) (hlen : k < fs.length) (hfs : fs.set k v = fs')
    (kk : jd_W G M d cb sb (pc + 3) ls st (jd_up h i (a, .inl (.inr (ci, fs')))) Q X) : jd_W G M d cb sb pc ls (v :: .ref a :: st) h Q X := by
  subst hfs
  intro p l e R s m args below meth c H locs cells slots la C h1 h2 hP hS hl
  have hts := C.2.2.2.2.2.2.2.1
  have hK := C.2.2.2.2.2.2.2.2.1.1.1
  have hown := C.2.2.2.2.2.2.1
  have hap := va_apart (own := M.1) hts hin ty0 hty hnm hK hc
  obtain ⟨r, e1, cell, q1, q2, q3, q4⟩ := hP.at ho
  have hr : r = (Cn, T, N) := Option.some.inj (e1.symm.trans hc)
  subst hr
  obtain ⟨hS', hfc, kC, hkC, hkind⟩ := hK.1 ci _ hc
  obtain ⟨cf, kf, fi, f, hi, hsl⟩ := hS' k hk
  have hlay := hts _ (hin _ (u_in_lay hk))
  unfold u_lay at hlay
  rw [if_neg (by rw [hfin]; decide)] at hlay
  have hst := (u_facts hfc hkC (u_lays hts hin hk) hi).1
  have h6 := u_store hfc hkC hkind hlay hi (hty k hk) hn hfit
  refine va_WputK C.1 C.2.1 (f := f) hown (va_Nw.use rfl (C.2.2.2.2.2.2.2.2.1.1.2.1 _ q rfl)) hi hst (by rw [q2]; exact h6) q1 q3 (by rw [hsl]; exact k2_hasslot (q4 k hk)) rfl rfl dc fun H' e1 e2 e3 => ?_
  rw [hsl] at e1 ⊢
  exact kk p l e R s m args below meth c H' _ cells slots la C h1 h2 (hP.wr ho ⟨_, hc, t_OB.to (V := updV (vp_V fs) k v) ⟨_, e1, q2, q3, t_set q4 hap hk v⟩ (fun j _ => vp_updV_set hlen v j)⟩ e3) (hS.put e2 e3 (hP.lo ho)) hl
/-- a final field, in the constructor of its class -/
theorem jd_putF {ty0 : Nat → FieldType} (hin : ∀ w ∈ u_ws Cn T N, w ∈ lw_all) (hty : ∀ k, k < N → parseFieldDescriptor (T k).2.2.1 = some (ty0 k)) (hnm : ∀ a, a < N → ∀ b, b < N → a ≠ b → (T a).2.1 ≠ (T b).2.1) (ho : h i = some (a, .inl (.inr (ci, fs)))) (k : Nat) (q : Cond.fieldLink M.1 idx (T k).1 (T k).2.1 (T k).2.2.1 ∈ lw_all) (dc : decode M.2.2.1 pc = .ok (.putfield idx, 3)) (hc : jd_cl[ci]? = some (Cn, T, N)) (hk : k < N) (hfin : (T k).2.2.2 = true) (hini : M.2.1.name = "<init>") (hdecl : (T k).1 = M.1) (hn : narrow (ty0 k) v = v) (hfit : fits (ty0 k) v = true) (hlen : k < fs.length) (hfs : fs.set k v = fs')
    (kk : jd_W G M d cb sb (pc + 3) ls st (jd_up h i (a, .inl (.inr (ci, fs')))) Q X) : jd_W G M d cb sb pc ls (v :: .ref a :: st) h Q X := by
  subst hfs
  intro p l e R s m args below meth c H locs cells slots la C h1 h2 hP hS hl
  have hts := C.2.2.2.2.2.2.2.1
  have hK := C.2.2.2.2.2.2.2.2.1.1.1
  have hown := C.2.2.2.2.2.2.1
  have hap := va_apart (own := M.1) hts hin ty0 hty hnm hK hc
  obtain ⟨r, e1, cell, q1, q2, q3, q4⟩ := hP.at ho
  have hr : r = (Cn, T, N) := Option.some.inj (e1.symm.trans hc)
  subst hr
  obtain ⟨hS', hfc, kC, hkC, hkind⟩ := hK.1 ci _ hc
  obtain ⟨cf, kf, fi, f, hi, hsl⟩ := hS' k hk
  have hlay := hts _ (hin _ (u_in_lay hk))
  unfold u_lay at hlay
  rw [if_pos hfin] at hlay
  have hst := (u_facts hfc hkC (u_lays hts hin hk) hi).1
  have hcf : m.cls = cf := by
    obtain ⟨_, _, c', _, _, _, -, -, hf', -, -, -, hown2, -⟩ := Cond.laysFinal_spec hlay
    have e1 : c' = cf := by have := hi.symm.trans hf'; simp at this; exact this.1.symm
    rw [hdecl] at hown2
    rw [← e1]; exact Option.some.inj (hown.symm.trans hown2)
  have h6 := u_fits hfc hkC hkind (Or.inr hlay) hi (hty k hk) hn hfit
  refine W.putFinK C.1 C.2.1 hown (hts _ q) hi hst hcf (C.2.2.2.2.2.1.trans hini) (by rw [q2]; exact h6) q1 q3 (by rw [hsl]; exact k2_hasslot (q4 k hk)) rfl rfl dc fun H' e1 e2 e3 => ?_
  rw [hsl] at e1 ⊢
  exact kk p l e R s m args below meth c H' _ cells slots la C h1 h2 (hP.wr ho ⟨_, hc, t_OB.to (V := updV (vp_V fs) k v) ⟨_, e1, q2, q3, t_set q4 hap hk v⟩ (fun j _ => vp_updV_set hlen v j)⟩ e3) (hS.put e2 e3 (hP.lo ho)) hl
theorem jd_vS {A : Nat → Prop} {H0 H H1 : Heap} {locs : List Loc} (hS : va_S A H0 H locs) (hz : H.size ≤ H1.size) (ho : ∀ q : Nat, q < H.size → H1[q]? = H[q]?) : va_S A H0 H1 locs :=
  ⟨Nat.le_trans hS.1 hz, fun x h1 h2 => (ho x (Nat.lt_of_lt_of_le h1 hS.1)).trans (hS.2.1 x h1 h2), hS.2.2⟩
theorem jd_new {ty0 : Nat → FieldType} (hin : ∀ w ∈ u_ws Cn T N, w ∈ lw_all) (hty : ∀ k, k < N → parseFieldDescriptor (T k).2.2.1 = some (ty0 k)) (q1 : Cond.classLink M.1 idx Cn ∈ lw_all) (q2 : Cond.instantiable Cn N ∈ lw_all) (q3 : Cond.initialized Cn ∈ lw_all) (dc : decode M.2.2.1 pc = .ok (.new idx, 3)) (ci : Nat) (hc : jd_cl[ci]? = some (Cn, T, N)) (hfs : (List.range N).map (fun j => defaultValue (ty0 j)) = fs) (hcb : 1 ≤ cb) (hsb : N ≤ sb)
    (kk : ∀ q : Nat, h (0, q) = none → jd_W G M d (cb - 1) (sb - N) (pc + 3) ls (.ref q :: st) (jd_up h (0, q) (q, .inl (.inr (ci, fs)))) Q X) : jd_W G M d cb sb pc ls st h Q X := by
  intro p l e R s m args below meth c H locs cells slots la C h1 h2 hP hS hl
  have hts := C.2.2.2.2.2.2.2.1
  have hGU := C.2.2.2.2.2.2.2.2.1
  have hKn := hGU.1.1.1 ci _ hc
  refine W.newcK C.1 C.2.1 C.2.2.2.2.2.2.1 (hts _ q1) (hts _ q2) (hts _ q3) rfl dc (by omega) (by omega) hKn.2.1 rfl fun H1 kC hkC e1 z1 o1 => ?_
  obtain ⟨hf, hP'⟩ := hP.nw (w := .inr (ci, fs)) (Nat.le_trans hGU.2.2 hS.1) ⟨_, hc, (u_born ty0 hts hin hKn hkC e1 hty).to (fun j hj => by
    rw [← hfs]; simp [vp_V, hj])⟩ o1
  exact kk _ hf p l e R s m args below meth c H1 locs (cells + 1) (slots + N) la C (by omega) (by omega) hP' (jd_vS hS (by omega) o1) hl
/-- a new array of numbers: t its place among the array classes -/
theorem jd_newa {atype : ArrayType} {ty : FieldType} {n : Int32} {N' : Nat} (hty : newarray.typeOf atype = ty) (q : Cond.arrayClass ty ∈ lw_all) (dc : decode M.2.2.1 pc = .ok (.newarray atype, 2)) (t : Nat) (ht : (jd_tys G)[t]? = some (G.2.1 t, ty)) (ht3 : t < 3) (hdv : defaultValue ty = .int 0) (hn : ¬ n < 0) (hN : n.toNatClampNeg = N') (hby : N' * componentBytes ty ≤ 536870912) (hcb : 1 ≤ cb) (hsb : N' ≤ sb)
    (kk : ∀ q : Nat, h (0, q) = none → jd_W G M d (cb - 1) (sb - N') (pc + 2) ls (.ref q :: st) (jd_up h (0, q) (q, .inl (.inl (G.2.1 t, N', .inl (fun _ => 0))))) Q X) : jd_W G M d cb sb pc ls (.int n :: st) h Q X := by
  subst hty
  intro p l e R s m args below meth c H locs cells slots la C h1 h2 hP hS hl
  have hts := C.2.2.2.2.2.2.2.1
  have hGU := C.2.2.2.2.2.2.2.2.1
  refine va_newaK C.1 C.2.1 (hts _ q) rfl dc rfl hn hN hby (by omega) (by omega) rfl fun H1 cA e1 z1 o1 hAr hNm => ?_
  have hA := (hGU.1.1.2 t _ ht).2
  have hcA : cA = G.2.1 t := by
    have : s.vm.findClass ("[" ++ (newarray.typeOf atype).toString) = some (G.2.1 t) := by
      cases atype <;> exact hA
    exact Option.some.inj (hNm.symm.trans this)
  subst hcA
  obtain ⟨hf, hP'⟩ := hP.nw (w := .inl (G.2.1 t, N', .inl (fun _ => 0))) (Nat.le_trans hGU.2.2 hS.1) (by
    show H1[H.size]? = some (vp_cell _ _)
    rw [e1, hdv]
    rfl) o1
  exact kk _ hf p l e R s m args below meth c H1 locs (cells + 1) (slots + N') la C (by omega) (by omega) hP' (jd_vS hS (by omega) o1) hl
/-- a new array of references -/
theorem jd_anew {En : String} {n : Int32} {N' : Nat} (q1 : Cond.classLink M.1 idx En ∈ lw_all) (q2 : Cond.arrayOver (.object En) ∈ lw_tbl) (dc : decode M.2.2.1 pc = .ok (.anewarray idx, 3)) (t : Nat) (ht : (jd_tys G)[t]? = some (G.2.1 t, .object En)) (hn : ¬ n < 0) (hN : n.toNatClampNeg = N') (hby : N' * 4 ≤ 536870912) (hcb : 1 ≤ cb) (hsb : N' ≤ sb)
    (kk : ∀ q : Nat, h (0, q) = none → jd_W G M d (cb - 1) (sb - N') (pc + 3) ls (.ref q :: st) (jd_up h (0, q) (q, .inl (.inl (G.2.1 t, N', .inr (.inr (.inr (.inr (fun _ => none)))))))) Q X) : jd_W G M d cb sb pc ls (.int n :: st) h Q X := by
  subst hN
  intro p l e R s m args below meth c H locs cells slots la C h1 h2 hP hS hl
  have hts := C.2.2.2.2.2.2.2.1
  have hGU := C.2.2.2.2.2.2.2.2.1
  refine W.anew C.1 C.2.1 C.2.2.2.2.2.2.1 (hts _ q1) (va_AO.use (hGU.1.2.1 _ q2 rfl)) rfl dc rfl hn hby (by omega) (by omega) fun cA kA comp f1 f2 f3 f4 => ?_
  generalize hH1 : H.push ({ cls := cA, slots := Array.replicate n.toNatClampNeg .null, vm := .none } : Cell) = H1
  have z1 : H1.size = H.size + 1 := by rw [← hH1, Array.size_push]
  have e1 : H1[H.size]? = some (arrV cA n.toNatClampNeg (fun _ => .null)) := by rw [← hH1, Array.getElem?_push_size, ← arrV_new]
  have o1 : ∀ q : Nat, q < H.size → H1[q]? = H[q]? := fun q hq => by rw [← hH1, Array.getElem?_push, if_neg (Nat.ne_of_lt hq)]
  obtain ⟨kA2, comp2, g1, g2, g3, g4⟩ := (hGU.1.1.2 t _ ht).2
  have hcA : cA = G.2.1 t := Option.some.inj (f1.symm.trans g4)
  subst hcA
  obtain ⟨hf, hP'⟩ := hP.nw (w := .inl (G.2.1 t, n.toNatClampNeg, .inr (.inr (.inr (.inr (fun _ => none)))))) (Nat.le_trans hGU.2.2 hS.1) (by
    show H1[H.size]? = some (vp_cell _ _)
    rw [e1]
    rfl) o1
  exact kk _ hf p l e R s m args below meth c H1 locs (cells + 1) (slots + n.toNatClampNeg) la C (by omega) (by omega) hP' (jd_vS hS (by omega) o1) hl
variable {n : Nat} {cA : ClassId} {x : vp_A} {f : Nat → Int32} {g : Nat → Option Nat} {j : Int32}
theorem jd_alen {ty : FieldType} (ho : h i = some (a, .inl (.inl (cA, x)))) (dc : decode M.2.2.1 pc = .ok (.arraylength, 1)) (t : Nat) (ht : (jd_tys G)[t]? = some (cA, ty)) (kk : jd_W G M d cb sb (pc + 1) ls (.int (nI x.1) :: st) h Q X) : jd_W G M d cb sb pc ls (.ref a :: st) h Q X := by
  intro p l e R s m args below meth c H locs cells slots la C h1 h2 hP hS hl
  exact va_alen C.1 C.2.1 C.2.2.2.2.2.2.2.2.1.1.1 (jd_one (hP.at ho)) 0 t rfl ht rfl dc (kk p l e R s m args below meth c H locs cells slots la C h1 h2 hP hS hl)
theorem jd_iald (ho : h i = some (a, .inl (.inl (G.2.1 0, n, .inl f)))) (dc : decode M.2.2.1 pc = .ok (.iaload, 1)) (hj : vp_in j n) (kk : jd_W G M d cb sb (pc + 1) ls (.int (f j.toNatClampNeg) :: st) h Q X) : jd_W G M d cb sb pc ls (.int j :: .ref a :: st) h Q X := by
  intro p l e R s m args below meth c H locs cells slots la C h1 h2 hP hS hl
  exact va_iald C.1 C.2.1 C.2.2.2.2.2.2.2.2.1.1.1 (jd_one (hP.at ho)) 0 0 rfl rfl hj dc (kk p l e R s m args below meth c H locs cells slots la C h1 h2 hP hS hl)
theorem jd_zald (ho : h i = some (a, .inl (.inl (G.2.1 1, n, .inl f)))) (dc : decode M.2.2.1 pc = .ok (.baload, 1)) (hj : vp_in j n) (kk : jd_W G M d cb sb (pc + 1) ls (.int (f j.toNatClampNeg) :: st) h Q X) : jd_W G M d cb sb pc ls (.int j :: .ref a :: st) h Q X := by
  intro p l e R s m args below meth c H locs cells slots la C h1 h2 hP hS hl
  exact va_zald C.1 C.2.1 C.2.2.2.2.2.2.2.2.1.1.1 (jd_one (hP.at ho)) 0 1 rfl rfl hj dc (kk p l e R s m args below meth c H locs cells slots la C h1 h2 hP hS hl)
theorem jd_bald (ho : h i = some (a, .inl (.inl (G.2.1 2, n, .inl f)))) (dc : decode M.2.2.1 pc = .ok (.baload, 1)) (hj : vp_in j n) (kk : jd_W G M d cb sb (pc + 1) ls (.int (f j.toNatClampNeg) :: st) h Q X) : jd_W G M d cb sb pc ls (.int j :: .ref a :: st) h Q X := by
  intro p l e R s m args below meth c H locs cells slots la C h1 h2 hP hS hl
  exact va_bald C.1 C.2.1 C.2.2.2.2.2.2.2.2.1.1.1 (jd_one (hP.at ho)) 0 2 rfl rfl hj dc (kk p l e R s m args below meth c H locs cells slots la C h1 h2 hP hS hl)
/-- an element of an array of references of class En -/
theorem jd_aald {En : String} {y : Nat} (ho : h i = some (a, .inl (.inl (cA, n, .inr (.inr (.inr (.inr g))))))) (dc : decode M.2.2.1 pc = .ok (.aaload, 1)) (t : Nat) (ht : (jd_tys G)[t]? = some (cA, .object En)) (hj : vp_in j n) (hy : g j.toNatClampNeg = some y) (kk : jd_W G M d cb sb (pc + 1) ls (.ref y :: st) h Q X) : jd_W G M d cb sb pc ls (.int j :: .ref a :: st) h Q X := by
  intro p l e R s m args below meth c H locs cells slots la C h1 h2 hP hS hl
  refine va_aldq C.1 C.2.1 C.2.2.2.2.2.2.2.2.1.1.1 (jd_one (hP.at ho)) 0 t rfl ht hj dc ?_
  rw [hy]
  exact kk p l e R s m args below meth c H locs cells slots la C h1 h2 hP hS hl
/-- a row of an array of arrays of ints -/
theorem jd_aaldI {y : Nat} (ho : h i = some (a, .inl (.inl (G.2.1 4, n, .inr (.inr (.inr (.inr g))))))) (dc : decode M.2.2.1 pc = .ok (.aaload, 1)) (hj : vp_in j n) (hy : g j.toNatClampNeg = some y) (kk : jd_W G M d cb sb (pc + 1) ls (.ref y :: st) h Q X) : jd_W G M d cb sb pc ls (.int j :: .ref a :: st) h Q X := by
  intro p l e R s m args below meth c H locs cells slots la C h1 h2 hP hS hl
  have hlt : j.toNatClampNeg < n := Nat.not_le.mp fun q => hj (Or.inr q)
  have hK := C.2.2.2.2.2.2.2.2.1.1.1
  refine W.aald (v := .ref y) (ty := .array .int) C.1 C.2.1 (hP.at ho) ((hK.2 4 _ rfl).1 n (fun j => va_rf (g j))) rfl (fun q => by cases q) (by show ¬ (j < 0 ∨ (arrV _ _ _).slots.size ≤ _); rw [arrV_size]; exact hj) (by show (arrV _ _ _).slots[_]? = _; rw [arrV_read _ _ hlt, hy]; rfl) rfl rfl dc ?_
  exact kk p l e R s m args below meth c H locs cells slots la C h1 h2 hP hS hl
end JH
