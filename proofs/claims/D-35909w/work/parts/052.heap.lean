/-! rows that read and write the shadow -/
set_option maxRecDepth 100000
def Sh.set (X : Sh) (a : Nat) (e : va_E) : Sh := (X.1, X.2.1, fun b => if b = a then some e else X.2.2 b)
def Sh.add (X : Sh) (e : va_E) (k : Nat) : Sh := (X.1 + 1, X.2.1 + k, fun b => if b = X.1 then some e else X.2.2 b)
theorem Sh.set_n (X : Sh) (a : Nat) (e : va_E) : (X.set a e).1 = X.1 := rfl
theorem Sh.set_k (X : Sh) (a : Nat) (e : va_E) : (X.set a e).2.1 = X.2.1 := rfl
theorem Sh.set_eq (X : Sh) (a : Nat) (e : va_E) : (X.set a e).2.2 a = some e := if_pos rfl
theorem Sh.set_ne (X : Sh) {a b : Nat} (e : va_E) (h : b ≠ a) : (X.set a e).2.2 b = X.2.2 b := if_neg h
theorem Sh.add_n (X : Sh) (e : va_E) (k : Nat) : (X.add e k).1 = X.1 + 1 := rfl
theorem Sh.add_k (X : Sh) (e : va_E) (k : Nat) : (X.add e k).2.1 = X.2.1 + k := rfl
theorem Sh.add_eq (X : Sh) (e : va_E) (k : Nat) : (X.add e k).2.2 X.1 = some e := if_pos rfl
theorem Sh.add_ne (X : Sh) {b : Nat} (e : va_E) (k : Nat) (h : b ≠ X.1) : (X.add e k).2.2 b = X.2.2 b := if_neg h
theorem RL.lt {γ : Gm} {X : Sh} {H : Heap} (h : RL γ X H) {a : Nat} {e : va_E} (ha : X.2.2 a = some e) : a < X.1 := by
  have h1 := va_at.lt (h.2.2.2 a e ha).2
  have h2 : H.size = X.1 := h.1
  dsimp only at h1
  omega
theorem RL.one {γ : Gm} {X : Sh} {H : Heap} (h : RL γ X H) {a : Nat} {e : va_E} (ha : X.2.2 a = some e) : va_P γ.D clA [(a, e)] H := by
  intro k q hk
  cases k with
  | zero => simp at hk; subst hk; exact (h.2.2.2 a e ha).2
  | succ k => simp at hk
theorem RL.set {γ : Gm} {X : Sh} {H H1 : Heap} (h : RL γ X H) {a : Nat} {e0 e : va_E} (ha : X.2.2 a = some e0) (h1 : va_at γ.D clA (a, e) H1) (hz : H1.size = H.size) (ho : ∀ q, q ≠ a → H1[q]? = H[q]?) : RL γ (X.set a e) H1 := by
  obtain ⟨g1, g2, g3, g4⟩ := h
  have hN := (g4 a e0 ha).1
  refine ⟨hz.trans g1, g2, fun q hq => ?_, fun b e' hb => ?_⟩
  · rw [ho q (by omega)]; exact g3 q hq
  · by_cases hba : b = a
    · subst hba
      rw [show (X.set b e).c b = some e from Sh.set_eq X b e] at hb
      cases hb
      exact ⟨hN, h1⟩
    · rw [show (X.set a e).c b = X.2.2 b from Sh.set_ne X e hba] at hb
      exact ⟨(g4 b e' hb).1, (g4 b e' hb).2.kept (ho b hba)⟩
theorem RL.add {γ : Gm} {X : Sh} {H H1 : Heap} (h : RL γ X H) {e : va_E} {k : Nat} (h1 : va_at γ.D clA (X.1, e) H1) (hz : H1.size = X.1 + 1) (ho : ∀ q, q < X.1 → H1[q]? = H[q]?) : RL γ (X.add e k) H1 := by
  have hlt := fun {a e} => h.lt (a := a) (e := e)
  obtain ⟨g1, g2, g3, g4⟩ := h
  refine ⟨hz, Nat.le_succ_of_le g2, fun q hq => ?_, fun b e' hb => ?_⟩
  · rw [ho q (Nat.lt_of_lt_of_le hq g2)]; exact g3 q hq
  · by_cases hba : b = X.1
    · subst hba
      rw [show (X.add e k).c X.1 = some e from Sh.add_eq X e k] at hb
      cases hb
      exact ⟨g2, h1⟩
    · rw [show (X.add e k).c b = X.2.2 b from Sh.add_ne X e k hba] at hb
      exact ⟨(g4 b e' hb).1, (g4 b e' hb).2.kept (ho b (hlt hb))⟩
theorem LO.app {γ : Gm} {locs : List Loc} (h : LO γ locs) {a k : Nat} (ha : γ.N ≤ a) : LO γ (locs ++ [⟨a, k⟩]) := by
  intro q hq
  rcases List.mem_append.mp hq with h1 | h1
  · exact h q h1
  · rw [List.mem_singleton.mp h1]; exact ha
section WH
variable {p : Program} {l : Launch} {e : Env} {R : Room} {s : State} {m : MethodId} {args : Array Value} {below : List Frame} {meth : Method} {c : Code} {H : Heap} {locs : List Loc} {cells slots : Nat} {Q : State → Prop}
variable {cc : ByteArray} {pc : Nat} {ls : Array Slot} {rest : List Value} {D : va_G} {cl : List vw_C} {a : Nat} {tys : List (ClassId × FieldType)}
/-- a store of a field, by what becomes of the heap -/
theorem wh_put (hexec : p.tables.exec = Jvm.exec) (hb : c.code = cc) {own ref C : String} {T : u_T} {N ci index : Nat} {Ts : List Cond} (hts : ∀ w ∈ Ts, w.before args s = true) (hin : ∀ w ∈ u_ws C T N, w ∈ Ts) (ty0 : Nat → FieldType) (hty : ∀ k, k < N → parseFieldDescriptor (T k).2.2.1 = some (ty0 k)) (hnm : ∀ a, a < N → ∀ b, b < N → a ≠ b → (T a).2.1 ≠ (T b).2.1) (hown : s.vm.findClass own = some m.cls) (hK : va_K D cl tys s) {fs : List Value} (he : va_at D cl (a, .inr (ci, fs)) H) (hc : cl[ci]? = some (C, T, N)) (k : Nat) (hk : k < N) (hlink : (Cond.fieldLink own index ref (T k).2.1 (T k).2.2.1).before args s = true) (hsame : ∀ x, s.fieldFound? (T k).1 (T k).2.1 (T k).2.2.1 = some x → s.fieldFound? ref (T k).2.1 (T k).2.2.1 = some x) (hfin : (T k).2.2.2 = false) {ty : FieldType} {v : Value} (hd : parseFieldDescriptor (T k).2.2.1 = some ty) (hn : narrow ty v = v) (hfit : fits ty v = true) (hl : k < fs.length)
    (hdg : decode cc pc = .ok (.putfield index, 3)) (kk : ∀ (H1 : Heap) (i : Nat), va_at D cl (a, .inr (ci, fs.set k v)) H1 → H1.size = H.size → (∀ q, q ≠ a → H1[q]? = H[q]?) → W p l e R s m args below meth c H1 (locs ++ [⟨a, i⟩]) cells slots Q (F0 m (pc + 3) ls rest)) : W p l e R s m args below meth c H locs cells slots Q (F0 m pc ls (v :: .ref a :: rest)) := by
  have hap := va_apart (own := own) hts hin ty0 hty hnm hK hc
  obtain ⟨r, h1, cell, q1, q2, q3, q4⟩ := he
  have hr : r = (C, T, N) := Option.some.inj (h1.symm.trans hc)
  subst hr
  obtain ⟨hS, hfc, kC, hkC, hkind⟩ := hK.1 ci _ hc
  obtain ⟨cf, kf, fi, f, hi, hsl⟩ := hS k hk
  have hlay := hts _ (hin _ (u_in_lay hk))
  unfold u_lay at hlay
  rw [if_neg (by rw [hfin]; decide)] at hlay
  have hst := (u_facts hfc hkC (u_lays hts hin hk) hi).1
  have h6 := u_store hfc hkC hkind hlay hi hd hn hfit
  refine W.putK hexec hb (f := f) ⟨hown, hlink, ⟨_, _, _, hsame _ hi⟩, hst⟩ (by rw [q2]; exact h6) q1 q3 (by rw [hsl]; exact k2_hasslot (q4 k hk)) rfl rfl hdg fun H' e1 e2 e3 => ?_
  rw [hsl] at e1
  exact kk H' _ ⟨_, hc, t_OB.to (V := updV (vp_V fs) k v) ⟨_, e1, q2, q3, t_set q4 hap hk v⟩ (fun j _ => vp_updV_set hl v j)⟩ e2 e3
theorem wh_putF (hexec : p.tables.exec = Jvm.exec) (hb : c.code = cc) {own ref C : String} {T : u_T} {N ci index : Nat} {Ts : List Cond} (hts : ∀ w ∈ Ts, w.before args s = true) (hin : ∀ w ∈ u_ws C T N, w ∈ Ts) (ty0 : Nat → FieldType) (hty : ∀ k, k < N → parseFieldDescriptor (T k).2.2.1 = some (ty0 k)) (hnm : ∀ a, a < N → ∀ b, b < N → a ≠ b → (T a).2.1 ≠ (T b).2.1) (hown : s.vm.findClass own = some m.cls) (hK : va_K D cl tys s) {fs : List Value} (he : va_at D cl (a, .inr (ci, fs)) H) (hc : cl[ci]? = some (C, T, N)) (k : Nat) (hk : k < N) (hlink : (Cond.fieldLink own index ref (T k).2.1 (T k).2.2.1).before args s = true) (hsame : ∀ x, s.fieldFound? (T k).1 (T k).2.1 (T k).2.2.1 = some x → s.fieldFound? ref (T k).2.1 (T k).2.2.1 = some x) (hfin : (T k).2.2.2 = true) (hin2 : meth.name = "<init>") (hdecl : (T k).1 = own) {ty : FieldType} {v : Value} (hd : parseFieldDescriptor (T k).2.2.1 = some ty) (hn : narrow ty v = v) (hfit : fits ty v = true) (hl : k < fs.length)
    (hdg : decode cc pc = .ok (.putfield index, 3)) (kk : ∀ (H1 : Heap) (i : Nat), va_at D cl (a, .inr (ci, fs.set k v)) H1 → H1.size = H.size → (∀ q, q ≠ a → H1[q]? = H[q]?) → W p l e R s m args below meth c H1 (locs ++ [⟨a, i⟩]) cells slots Q (F0 m (pc + 3) ls rest)) : W p l e R s m args below meth c H locs cells slots Q (F0 m pc ls (v :: .ref a :: rest)) := by
  have hap := va_apart (own := own) hts hin ty0 hty hnm hK hc
  obtain ⟨r, h1, cell, q1, q2, q3, q4⟩ := he
  have hr : r = (C, T, N) := Option.some.inj (h1.symm.trans hc)
  subst hr
  obtain ⟨hS, hfc, kC, hkC, hkind⟩ := hK.1 ci _ hc
  obtain ⟨cf, kf, fi, f, hi, hsl⟩ := hS k hk
  have hlay := hts _ (hin _ (u_in_lay hk))
  unfold u_lay at hlay
  rw [if_pos hfin] at hlay
  have hst := (u_facts hfc hkC (u_lays hts hin hk) hi).1
  have hcf : m.cls = cf := by
    obtain ⟨_, _, c', _, _, _, -, -, hf', -, -, -, hown2, -⟩ := Cond.laysFinal_spec hlay
    have e1 : c' = cf := by have := hi.symm.trans hf'; simp at this; exact this.1.symm
    rw [hdecl] at hown2
    rw [← e1]; exact Option.some.inj (hown.symm.trans hown2)
  have h6 := u_fits hfc hkC hkind (Or.inr hlay) hi hd hn hfit
  refine W.putFinK hexec hb hown hlink (hsame _ hi) hst hcf hin2 (by rw [q2]; exact h6) q1 q3 (by rw [hsl]; exact k2_hasslot (q4 k hk)) rfl rfl hdg fun H' e1 e2 e3 => ?_
  rw [hsl] at e1
  exact kk H' _ ⟨_, hc, t_OB.to (V := updV (vp_V fs) k v) ⟨_, e1, q2, q3, t_set q4 hap hk v⟩ (fun j _ => vp_updV_set hl v j)⟩ e2 e3
/-- .. through a nest mate -/
theorem wh_putN (hexec : p.tables.exec = Jvm.exec) (hb : c.code = cc) {own ref C host : String} {T : u_T} {N ci index : Nat} {Ts : List Cond} (hts : ∀ w ∈ Ts, w.before args s = true) (hin : ∀ w ∈ u_ws C T N, w ∈ Ts) (ty0 : Nat → FieldType) (hty : ∀ k, k < N → parseFieldDescriptor (T k).2.2.1 = some (ty0 k)) (hnm : ∀ a, a < N → ∀ b, b < N → a ≠ b → (T a).2.1 ≠ (T b).2.1) (hown : s.vm.findClass own = some m.cls) (hK : va_K D cl tys s) {fs : List Value} (he : va_at D cl (a, .inr (ci, fs)) H) (hc : cl[ci]? = some (C, T, N)) (k : Nat) (hk : k < N) (hlink : (Cond.fieldLinkNest own index ref (T k).2.1 (T k).2.2.1 host).before args s = true) (hsame : ∀ x, s.fieldFound? (T k).1 (T k).2.1 (T k).2.2.1 = some x → s.fieldFound? ref (T k).2.1 (T k).2.2.1 = some x) (hfin : (T k).2.2.2 = false) {ty : FieldType} {v : Value} (hd : parseFieldDescriptor (T k).2.2.1 = some ty) (hn : narrow ty v = v) (hfit : fits ty v = true) (hl : k < fs.length)
    (hdg : decode cc pc = .ok (.putfield index, 3)) (kk : ∀ (H1 : Heap) (i : Nat), va_at D cl (a, .inr (ci, fs.set k v)) H1 → H1.size = H.size → (∀ q, q ≠ a → H1[q]? = H[q]?) → W p l e R s m args below meth c H1 (locs ++ [⟨a, i⟩]) cells slots Q (F0 m (pc + 3) ls rest)) : W p l e R s m args below meth c H locs cells slots Q (F0 m pc ls (v :: .ref a :: rest)) := by
  have hap := va_apart (own := own) hts hin ty0 hty hnm hK hc
  obtain ⟨r, h1, cell, q1, q2, q3, q4⟩ := he
  have hr : r = (C, T, N) := Option.some.inj (h1.symm.trans hc)
  subst hr
  obtain ⟨hS, hfc, kC, hkC, hkind⟩ := hK.1 ci _ hc
  obtain ⟨cf, kf, fi, f, hi, hsl⟩ := hS k hk
  have hlay := hts _ (hin _ (u_in_lay hk))
  unfold u_lay at hlay
  rw [if_neg (by rw [hfin]; decide)] at hlay
  have hst := (u_facts hfc hkC (u_lays hts hin hk) hi).1
  have h6 := u_store hfc hkC hkind hlay hi hd hn hfit
  refine va_WputK hexec hb (f := f) hown hlink (hsame _ hi) hst (by rw [q2]; exact h6) q1 q3 (by rw [hsl]; exact k2_hasslot (q4 k hk)) rfl rfl hdg fun H' e1 e2 e3 => ?_
  rw [hsl] at e1
  exact kk H' _ ⟨_, hc, t_OB.to (V := updV (vp_V fs) k v) ⟨_, e1, q2, q3, t_set q4 hap hk v⟩ (fun j _ => vp_updV_set hl v j)⟩ e2 e3
end WH
section HRows
variable {γ : Gm} {M : MI} {X0 X : Sh} {pc : Nat} {lv : List (Option Value)} {rest : List Value} {Q : Ot → Sh → Prop}
/-- the owner's name of a field as the code spells it -/
def fsame (ref : String) (T : u_T) (k : Nat) : Prop := (T k).1 = ref ∨ Cond.sameField ref (T k).1 (T k).2.1 (T k).2.2.1 ∈ lw_all
theorem fsame.to {ref : String} {T : u_T} {k : Nat} (h : fsame ref T k) {args : Array Value} {s : State} (hts : ∀ w ∈ lw_all, w.before args s = true) : ∀ x, s.fieldFound? (T k).1 (T k).2.1 (T k).2.2.1 = some x → s.fieldFound? ref (T k).2.1 (T k).2.2.1 = some x := by
  rcases h with h | h
  · rw [h]; exact fun _ h => h
  · exact u_same (hts _ h)
theorem sw_get {ref C : String} {T : u_T} {N ci index a k : Nat} {fs : List Value} {v : Value} (pc1 : Nat) (hp : pc + 3 = pc1) (hX : X.2.2 a = some (.inr (ci, fs))) (hv : fs[k]? = some v) (hc : clA[ci]? = some (C, T, N)) (hk : k < N) (hin : ∀ w ∈ u_ws C T N, w ∈ lw_all) (hlink : Cond.fieldLink M.y.cls index ref (T k).2.1 (T k).2.2.1 ∈ lw_all) (hs : fsame ref T k) (d : decode M.cd pc = .ok (.getfield index, 3)) (kk : SW γ M X0 X pc1 lv (v :: rest) Q) : SW γ M X0 X pc lv (.ref a :: rest) Q := by
  subst hp
  exact SW.up (fun p e R s m args below meth c H locs cells slots Z ls X' C9 hR hL hz hl kk => va_get C9.exec C9.code C9.hts hin C9.own C9.K (hR.one hX) 0 rfl hc k hk (C9.hts _ hlink) (hs.to C9.hts) hv d (kk ls hl)) kk
theorem sw_getN {ref C host : String} {T : u_T} {N ci index a k : Nat} {fs : List Value} {v : Value} (pc1 : Nat) (hp : pc + 3 = pc1) (hX : X.2.2 a = some (.inr (ci, fs))) (hv : fs[k]? = some v) (hc : clA[ci]? = some (C, T, N)) (hk : k < N) (hin : ∀ w ∈ u_ws C T N, w ∈ lw_all) (hlink : Cond.fieldLinkNest M.y.cls index ref (T k).2.1 (T k).2.2.1 host ∈ lw_tbl) (hs : fsame ref T k) (d : decode M.cd pc = .ok (.getfield index, 3)) (kk : SW γ M X0 X pc1 lv (v :: rest) Q) : SW γ M X0 X pc lv (.ref a :: rest) Q := by
  subst hp
  exact SW.up (fun p e R s m args below meth c H locs cells slots Z ls X' C9 hR hL hz hl kk => va_getN C9.exec C9.code C9.hts hin C9.own C9.K (hR.one hX) 0 rfl hc k hk (va_Nw.use rfl (va_Nw.warmF C9.warm (C9.nw rfl hlink))) (hs.to C9.hts) hv d (kk ls hl)) kk
theorem sw_put {ref C : String} {T : u_T} {N ci index a k : Nat} {fs : List Value} {v : Value} {ty : FieldType} (ty0 : Nat → FieldType) (pc1 : Nat) (hp : pc + 3 = pc1) (hX : X.2.2 a = some (.inr (ci, fs))) (hn : narrow ty v = v) (hf : fits ty v = true) (hl : k < fs.length) (hc : clA[ci]? = some (C, T, N)) (hk : k < N) (hin : ∀ w ∈ u_ws C T N, w ∈ lw_all) (hty : ∀ k, k < N → parseFieldDescriptor (T k).2.2.1 = some (ty0 k)) (hnm : ∀ a, a < N → ∀ b, b < N → a ≠ b → (T a).2.1 ≠ (T b).2.1) (hd : ty0 k = ty) (hfin : (T k).2.2.2 = false) (hlink : Cond.fieldLink M.y.cls index ref (T k).2.1 (T k).2.2.1 ∈ lw_all) (hs : fsame ref T k) (d : decode M.cd pc = .ok (.putfield index, 3)) (kk : ∀ X1, X1 = X.set a (.inr (ci, fs.set k v)) → SW γ M X0 X1 pc1 lv rest Q) : SW γ M X0 X pc lv (v :: .ref a :: rest) Q := by
  subst hp
  refine SW.go (X1 := X.set a (.inr (ci, fs.set k v))) (Nat.le_refl _) (Nat.le_refl _) ?_ (kk _ rfl)
  intro p e R s m args below meth c H locs cells slots Z ls X' C9 hR hL hz hlv hc1 hc2 k9
  refine wh_put C9.exec C9.code C9.hts hin ty0 hty hnm C9.own C9.K (hR.2.2.2 a _ hX).2 hc k hk (C9.hts _ hlink) (hs.to C9.hts) hfin ((hty k hk).trans (congrArg some hd)) hn hf hl d (fun H1 i h1 h2 h3 => ?_)
  have h9 := k9 H1 (locs ++ [⟨a, i⟩]) (hR.set hX h1 h2 h3) (hL.app (hR.2.2.2 a _ hX).1)
  rw [show (X.set a (.inr (ci, fs.set k v))).n = X.n from rfl, show (X.set a (.inr (ci, fs.set k v))).k = X.k from rfl, Nat.sub_self, Nat.sub_self] at h9
  exact h9
theorem sw_putF {ref C : String} {T : u_T} {N ci index a k : Nat} {fs : List Value} {v : Value} {ty : FieldType} (ty0 : Nat → FieldType) (pc1 : Nat) (hp : pc + 3 = pc1) (hX : X.2.2 a = some (.inr (ci, fs))) (hn : narrow ty v = v) (hf : fits ty v = true) (hl : k < fs.length) (hc : clA[ci]? = some (C, T, N)) (hk : k < N) (hin : ∀ w ∈ u_ws C T N, w ∈ lw_all) (hty : ∀ k, k < N → parseFieldDescriptor (T k).2.2.1 = some (ty0 k)) (hnm : ∀ a, a < N → ∀ b, b < N → a ≠ b → (T a).2.1 ≠ (T b).2.1) (hd : ty0 k = ty) (hfin : (T k).2.2.2 = true) (hlink : Cond.fieldLink M.y.cls index ref (T k).2.1 (T k).2.2.1 ∈ lw_all) (hs : fsame ref T k) (hi : M.y.name = "<init>") (ho : (T k).1 = M.y.cls) (d : decode M.cd pc = .ok (.putfield index, 3)) (kk : ∀ X1, X1 = X.set a (.inr (ci, fs.set k v)) → SW γ M X0 X1 pc1 lv rest Q) : SW γ M X0 X pc lv (v :: .ref a :: rest) Q := by
  subst hp
  refine SW.go (X1 := X.set a (.inr (ci, fs.set k v))) (Nat.le_refl _) (Nat.le_refl _) ?_ (kk _ rfl)
  intro p e R s m args below meth c H locs cells slots Z ls X' C9 hR hL hz hlv hc1 hc2 k9
  refine wh_putF C9.exec C9.code C9.hts hin ty0 hty hnm C9.own C9.K (hR.2.2.2 a _ hX).2 hc k hk (C9.hts _ hlink) (hs.to C9.hts) hfin (C9.name.trans hi) ho ((hty k hk).trans (congrArg some hd)) hn hf hl d (fun H1 i h1 h2 h3 => ?_)
  have h9 := k9 H1 (locs ++ [⟨a, i⟩]) (hR.set hX h1 h2 h3) (hL.app (hR.2.2.2 a _ hX).1)
  rw [show (X.set a (.inr (ci, fs.set k v))).n = X.n from rfl, show (X.set a (.inr (ci, fs.set k v))).k = X.k from rfl, Nat.sub_self, Nat.sub_self] at h9
  exact h9
theorem sw_putN {ref C host : String} {T : u_T} {N ci index a k : Nat} {fs : List Value} {v : Value} {ty : FieldType} (ty0 : Nat → FieldType) (pc1 : Nat) (hp : pc + 3 = pc1) (hX : X.2.2 a = some (.inr (ci, fs))) (hn : narrow ty v = v) (hf : fits ty v = true) (hl : k < fs.length) (hc : clA[ci]? = some (C, T, N)) (hk : k < N) (hin : ∀ w ∈ u_ws C T N, w ∈ lw_all) (hty : ∀ k, k < N → parseFieldDescriptor (T k).2.2.1 = some (ty0 k)) (hnm : ∀ a, a < N → ∀ b, b < N → a ≠ b → (T a).2.1 ≠ (T b).2.1) (hd : ty0 k = ty) (hfin : (T k).2.2.2 = false) (hlink : Cond.fieldLinkNest M.y.cls index ref (T k).2.1 (T k).2.2.1 host ∈ lw_tbl) (hs : fsame ref T k) (d : decode M.cd pc = .ok (.putfield index, 3)) (kk : ∀ X1, X1 = X.set a (.inr (ci, fs.set k v)) → SW γ M X0 X1 pc1 lv rest Q) : SW γ M X0 X pc lv (v :: .ref a :: rest) Q := by
  subst hp
  refine SW.go (X1 := X.set a (.inr (ci, fs.set k v))) (Nat.le_refl _) (Nat.le_refl _) ?_ (kk _ rfl)
  intro p e R s m args below meth c H locs cells slots Z ls X' C9 hR hL hz hlv hc1 hc2 k9
  refine wh_putN C9.exec C9.code C9.hts hin ty0 hty hnm C9.own C9.K (hR.2.2.2 a _ hX).2 hc k hk (va_Nw.use rfl (va_Nw.warmF C9.warm (C9.nw rfl hlink))) (hs.to C9.hts) hfin ((hty k hk).trans (congrArg some hd)) hn hf hl d (fun H1 i h1 h2 h3 => ?_)
  have h9 := k9 H1 (locs ++ [⟨a, i⟩]) (hR.set hX h1 h2 h3) (hL.app (hR.2.2.2 a _ hX).1)
  rw [show (X.set a (.inr (ci, fs.set k v))).n = X.n from rfl, show (X.set a (.inr (ci, fs.set k v))).k = X.k from rfl, Nat.sub_self, Nat.sub_self] at h9
  exact h9
/-! arrays -/
theorem sw_alen {a n : Nat} {cA : ClassId} {y : (Nat → Int32) ⊕ (Nat → Int64) ⊕ (Nat → UInt32) ⊕ (Nat → UInt64) ⊕ (Nat → Option Nat)} {ty : FieldType} (t0 pc1 : Nat) (hp : pc + 1 = pc1) (hX : X.2.2 a = some (.inl (cA, n, y))) (ht : (tyA γ)[t0]? = some (cA, ty)) (d : decode M.cd pc = .ok (.arraylength, 1)) (kk : SW γ M X0 X pc1 lv (.int (nI n) :: rest) Q) : SW γ M X0 X pc lv (.ref a :: rest) Q := by
  subst hp
  exact SW.up (fun p e R s m args below meth c H locs cells slots Z ls X' C9 hR hL hz hl kk => va_alen C9.exec C9.code C9.K (hR.one hX) 0 t0 rfl ht rfl d (kk ls hl)) kk
theorem sw_iald {a n j : Nat} {f : Nat → Int32} (pc1 : Nat) (hp : pc + 1 = pc1) (hX : X.2.2 a = some (eI γ n f)) (hj : j < n) (hn : n < 2 ^ 31) (d : decode M.cd pc = .ok (.iaload, 1)) (kk : SW γ M X0 X pc1 lv (.int (f j) :: rest) Q) : SW γ M X0 X pc lv (.int (nI j) :: .ref a :: rest) Q := by
  subst hp
  refine SW.up (fun p e R s m args below meth c H locs cells slots Z ls X' C9 hR hL hz hl kk => ?_) kk
  refine va_iald C9.exec C9.code C9.K (hR.one hX) 0 0 rfl rfl (vp_in_nI hj hn) d ?_
  rw [nI_clamp (Nat.lt_trans hj hn)]
  exact kk ls hl
theorem sw_zald {a n j : Nat} {f : Nat → Int32} (pc1 : Nat) (hp : pc + 1 = pc1) (hX : X.2.2 a = some (eZ γ n f)) (hj : j < n) (hn : n < 2 ^ 31) (d : decode M.cd pc = .ok (.baload, 1)) (kk : SW γ M X0 X pc1 lv (.int (f j) :: rest) Q) : SW γ M X0 X pc lv (.int (nI j) :: .ref a :: rest) Q := by
  subst hp
  refine SW.up (fun p e R s m args below meth c H locs cells slots Z ls X' C9 hR hL hz hl kk => ?_) kk
  refine va_zald C9.exec C9.code C9.K (hR.one hX) 0 2 rfl rfl (vp_in_nI hj hn) d ?_
  rw [nI_clamp (Nat.lt_trans hj hn)]
  exact kk ls hl
theorem sw_lald {a n j : Nat} {f : Nat → Int64} (pc1 : Nat) (hp : pc + 1 = pc1) (hX : X.2.2 a = some (eL γ n f)) (hj : j < n) (hn : n < 2 ^ 31) (d : decode M.cd pc = .ok (.laload, 1)) (kk : SW γ M X0 X pc1 lv (.long (f j) :: rest) Q) : SW γ M X0 X pc lv (.int (nI j) :: .ref a :: rest) Q := by
  subst hp
  refine SW.up (fun p e R s m args below meth c H locs cells slots Z ls X' C9 hR hL hz hl kk => ?_) kk
  refine va_lald C9.exec C9.code C9.K (hR.one hX) 0 1 rfl rfl (vp_in_nI hj hn) d ?_
  rw [nI_clamp (Nat.lt_trans hj hn)]
  exact kk ls hl
theorem sw_oald {a n j : Nat} {f : Nat → Option Nat} (pc1 : Nat) (hp : pc + 1 = pc1) (hX : X.2.2 a = some (eO γ n f)) (hj : j < n) (hn : n < 2 ^ 31) (d : decode M.cd pc = .ok (.aaload, 1)) (kk : SW γ M X0 X pc1 lv (va_rf (f j) :: rest) Q) : SW γ M X0 X pc lv (.int (nI j) :: .ref a :: rest) Q := by
  subst hp
  refine SW.up (fun p e R s m args below meth c H locs cells slots Z ls X' C9 hR hL hz hl kk => ?_) kk
  refine va_aldq C9.exec C9.code C9.K (hR.one hX) 0 3 rfl rfl (vp_in_nI hj hn) d ?_
  rw [nI_clamp (Nat.lt_trans hj hn)]
  exact kk ls hl
theorem sw_bald {a n j : Nat} {f : Nat → Option Nat} (pc1 : Nat) (hp : pc + 1 = pc1) (hX : X.2.2 a = some (eB γ n f)) (hj : j < n) (hn : n < 2 ^ 31) (d : decode M.cd pc = .ok (.aaload, 1)) (kk : SW γ M X0 X pc1 lv (va_rf (f j) :: rest) Q) : SW γ M X0 X pc lv (.int (nI j) :: .ref a :: rest) Q := by
  subst hp
  refine SW.up (fun p e R s m args below meth c H locs cells slots Z ls X' C9 hR hL hz hl kk => ?_) kk
  refine va_aldq C9.exec C9.code C9.K (hR.one hX) 0 4 rfl rfl (vp_in_nI hj hn) d ?_
  rw [nI_clamp (Nat.lt_trans hj hn)]
  exact kk ls hl
theorem up_eqf {α : Type} (F : α → Value) (f : Nat → α) (j : Nat) (x : α) : updV (fun i => F (f i)) j (F x) = fun i => F (va_up f j x i) := by
  funext q
  by_cases hq : q = j <;> simp [updV, va_up, hq]
theorem sw_iast {a n j : Nat} {x : Int32} {f : Nat → Int32} (pc1 : Nat) (hp : pc + 1 = pc1) (hX : X.2.2 a = some (eI γ n f)) (hj : j < n) (hn : n < 2 ^ 31) (d : decode M.cd pc = .ok (.iastore, 1)) (kk : ∀ X1, X1 = X.set a (eI γ n (va_up f j x)) → SW γ M X0 X1 pc1 lv rest Q) : SW γ M X0 X pc lv (.int x :: .int (nI j) :: .ref a :: rest) Q := by
  subst hp
  refine SW.go (X1 := X.set a (eI γ n (va_up f j x))) (Nat.le_refl _) (Nat.le_refl _) ?_ (kk _ rfl)
  intro p e R s m args below meth c H locs cells slots Z ls X' C9 hR hL hz hlv hc1 hc2 k9
  refine W.iast C9.exec C9.code (hR.2.2.2 a _ hX).2 ((C9.K.2 0 _ rfl).1 n (fun j => .int (f j))) (fun q => by cases q) (by show ¬ (_ ∨ (arrV _ _ _).slots.size ≤ _); rw [arrV_size]; exact vp_in_nI hj hn) rfl rfl d fun H1 e1 e2 e3 => ?_
  rw [nI_clamp (Nat.lt_trans hj hn)] at e1
  refine cast ?_ (k9 H1 (locs ++ [⟨a, (nI j).toNatClampNeg⟩]) (hR.set hX ?_ e2 e3) (hL.app (hR.2.2.2 a _ hX).1))
  · rw [show (X.set a (eI γ n (va_up f j x))).n = X.n from rfl, show (X.set a (eI γ n (va_up f j x))).k = X.k from rfl, Nat.sub_self, Nat.sub_self]
    rfl
  · show H1[a]? = some (vp_cell _ _)
    rw [e1, vp_cell_i, vp_cell_i, arrV_store, up_eqf]
theorem sw_last {a n j : Nat} {x : Int64} {f : Nat → Int64} (pc1 : Nat) (hp : pc + 1 = pc1) (hX : X.2.2 a = some (eL γ n f)) (hj : j < n) (hn : n < 2 ^ 31) (d : decode M.cd pc = .ok (.lastore, 1)) (kk : ∀ X1, X1 = X.set a (eL γ n (va_up f j x)) → SW γ M X0 X1 pc1 lv rest Q) : SW γ M X0 X pc lv (.long x :: .int (nI j) :: .ref a :: rest) Q := by
  subst hp
  refine SW.go (X1 := X.set a (eL γ n (va_up f j x))) (Nat.le_refl _) (Nat.le_refl _) ?_ (kk _ rfl)
  intro p e R s m args below meth c H locs cells slots Z ls X' C9 hR hL hz hlv hc1 hc2 k9
  refine W.last C9.exec C9.code (hR.2.2.2 a _ hX).2 ((C9.K.2 1 _ rfl).1 n (fun j => .long (f j))) (fun q => by cases q) (by show ¬ (_ ∨ (arrV _ _ _).slots.size ≤ _); rw [arrV_size]; exact vp_in_nI hj hn) rfl rfl d fun H1 e1 e2 e3 => ?_
  rw [nI_clamp (Nat.lt_trans hj hn)] at e1
  refine cast ?_ (k9 H1 (locs ++ [⟨a, (nI j).toNatClampNeg⟩]) (hR.set hX ?_ e2 e3) (hL.app (hR.2.2.2 a _ hX).1))
  · rw [show (X.set a (eL γ n (va_up f j x))).n = X.n from rfl, show (X.set a (eL γ n (va_up f j x))).k = X.k from rfl, Nat.sub_self, Nat.sub_self]
    rfl
  · show H1[a]? = some (vp_cell _ _)
    rw [e1, vp_cell_l, vp_cell_l, arrV_store, up_eqf]
theorem sw_zast {a n j : Nat} {x : Int32} {f : Nat → Int32} (pc1 : Nat) (hp : pc + 1 = pc1) (hX : X.2.2 a = some (eZ γ n f)) (hx : narrow .boolean (.int x) = .int x) (hj : j < n) (hn : n < 2 ^ 31) (d : decode M.cd pc = .ok (.bastore, 1)) (kk : ∀ X1, X1 = X.set a (eZ γ n (va_up f j x)) → SW γ M X0 X1 pc1 lv rest Q) : SW γ M X0 X pc lv (.int x :: .int (nI j) :: .ref a :: rest) Q := by
  subst hp
  refine SW.go (X1 := X.set a (eZ γ n (va_up f j x))) (Nat.le_refl _) (Nat.le_refl _) ?_ (kk _ rfl)
  intro p e R s m args below meth c H locs cells slots Z ls X' C9 hR hL hz hlv hc1 hc2 k9
  refine W.zast C9.exec C9.code (hR.2.2.2 a _ hX).2 ((C9.K.2 2 _ rfl).1 n (fun j => .int (f j))) (fun q => by cases q) (by show ¬ (_ ∨ (arrV _ _ _).slots.size ≤ _); rw [arrV_size]; exact vp_in_nI hj hn) rfl rfl d fun H1 e1 e2 e3 => ?_
  rw [nI_clamp (Nat.lt_trans hj hn), hx] at e1
  refine cast ?_ (k9 H1 (locs ++ [⟨a, (nI j).toNatClampNeg⟩]) (hR.set hX ?_ e2 e3) (hL.app (hR.2.2.2 a _ hX).1))
  · rw [show (X.set a (eZ γ n (va_up f j x))).n = X.n from rfl, show (X.set a (eZ γ n (va_up f j x))).k = X.k from rfl, Nat.sub_self, Nat.sub_self]
    rfl
  · show H1[a]? = some (vp_cell _ _)
    rw [e1, vp_cell_i, vp_cell_i, arrV_store, up_eqf]
/-- a broker into an array of brokers -/
theorem sw_bast {a n j v : Nat} {vs : List Value} {f : Nat → Option Nat} (pc1 : Nat) (hp : pc + 1 = pc1) (hX : X.2.2 a = some (eB γ n f)) (hv : X.2.2 v = some (.inr (2, vs))) (hj : j < n) (hn : n < 2 ^ 31) (d : decode M.cd pc = .ok (.aastore, 1)) (kk : ∀ X1, X1 = X.set a (eB γ n (va_up f j (some v))) → SW γ M X0 X1 pc1 lv rest Q) : SW γ M X0 X pc lv (.ref v :: .int (nI j) :: .ref a :: rest) Q := by
  subst hp
  refine SW.go (X1 := X.set a (eB γ n (va_up f j (some v)))) (Nat.le_refl _) (Nat.le_refl _) ?_ (kk _ rfl)
  intro p e R s m args below meth c H locs cells slots Z ls X' C9 hR hL hz hlv hc1 hc2 k9
  obtain ⟨r', hr', cellV, g1, g2, g3, -⟩ := (hR.2.2.2 v _ hv).2
  have hcls := (C9.K.1 2 _ rfl).2
  obtain ⟨kA, comp, k1, k2, k3, -⟩ := (C9.K.2 4 _ rfl).2
  have hcomp : comp = γ.D.1 2 := Option.some.inj (k3.symm.trans hcls.1)
  subst hcomp
  obtain ⟨kC, hkC, -⟩ := hcls.2
  refine W.aast C9.exec C9.code (hR.2.2.2 a _ hX).2 (fun q h => by cases h) (fun h => by cases h) k1 k2 rfl hkC ⟨nI_pos (Nat.lt_trans hj hn), by show _ < (arrV _ _ _).slots.size; rw [arrV_size, nI_clamp (Nat.lt_trans hj hn)]; exact hj⟩ g1 (fun q h => by rw [g3] at h; cases h) (by rw [g2]; exact hkC) (by rw [g2]; exact va_assign hcls) rfl rfl d fun H1 e1 e2 e3 => ?_
  rw [nI_clamp (Nat.lt_trans hj hn)] at e1
  refine cast ?_ (k9 H1 (locs ++ [⟨a, (nI j).toNatClampNeg⟩]) (hR.set hX ?_ e2 e3) (hL.app (hR.2.2.2 a _ hX).1))
  · rw [show (X.set a (eB γ n (va_up f j (some v)))).n = X.n from rfl, show (X.set a (eB γ n (va_up f j (some v)))).k = X.k from rfl, Nat.sub_self, Nat.sub_self]
    rfl
  · show H1[a]? = some (vp_cell _ _)
    rw [e1, vp_cell_q, vp_cell_q, arrV_store, ← up_eqf va_rf]; rfl
end HRows
