/-! what is thrown: written by prog/gen_thr.py; its first law follows vx_throwS of part 040 -/
set_option maxRecDepth 100000
section Thr
variable {p : Program} {l : Launch} {e : Env} {R : Room} {s : State} {m : MethodId} {args : Array Value} {below : List Frame} {meth : Method} {c : Code} {H : Heap} {locs : List Loc} {cells slots : Nat} {Q : State → Prop}
variable {mc ms : Nat} {free : Addr → Prop} {A0 A1 : Nat → Prop} {H0 : Heap} {a : Array Value} {ls : Array Slot} {st0 rest : List Value}
variable {Qc : Array Value → State → Outcome → State → Prop} {XC : String → State → State → Prop}
theorem wx_throwS {cc : ByteArray} {pc : Nat} (hexec : p.tables.exec = Jvm.exec) (hb : c.code = cc) (hl : l.stackTraces = false) {own cls text : String} {names : List String} {ik is ic mc ms sa : Nat} {A : Nat → Prop}
    (hown : s.vm.findClass own = some m.cls) (hcls : Bundle.fit cls = true) (hnames : ∀ n ∈ names, Bundle.fit n = true)
    (hk : (Cond.classLink own ik cls).before args s = true) (hini : (Cond.initialized cls).before args s = true) (hstr : vk_R own is text sa s) (hat : ∀ w ∈ vx_atS own ic cls names, w.before args s = true)
    (hgood : ∀ w ∈ Cond.classLink own ik cls :: Cond.initialized cls :: vx_atS own ic cls names, vx_ot w = true)
    (hU : vx_Zq Bundle.tN "UNASSIGNED_STACK" Bundle.steD A s s.heap) (hN : vx_Zq Bundle.tN "SUPPRESSED_SENTINEL" Bundle.listD A s s.heap) (hS : va_S A s.heap H locs) (hsize : ls.size = c.maxLocals)
    (d0 : decode cc pc = .ok (.new ik, 3)) (d3 : decode cc (pc + 3) = .ok (.dup, 1)) (d4 : decode cc (pc + 4) = .ok (.ldc is, 2)) (d6 : decode cc (pc + 6) = .ok (.invokespecial ic, 3)) (d9 : decode cc (pc + 9) = .ok (.athrow, 1))
    (hout : ∀ x ∈ c.exceptionTable.toList, covers x (pc + 9) = false)
    (hRframes : names.length + 3 < R.frames) (hRlocals : (rest.map fun v => v.category).sum + (13 * (names.length + 1) + 43) ≤ R.locals) (hRcells : cells + 1 ≤ R.cells) (hRslots : slots + 6 ≤ R.slots) (hlocks : meth.locks = false)
    (hx : ∀ t : State, s.vm.Alike t.vm → t.heap.size = H.size + 1 → (∀ q : Nat, q < H.size → t.heap[q]? = H[q]?) → XC cls s t)
    (hf : ∀ z ∈ locs, free z.base) (hc : cells + 1 ≤ mc) (hs : slots + 6 ≤ ms) :
    W p l e R s m args below meth c H locs cells slots (vx_MQ below Qc XC args s mc ms free) (F0 m pc ls rest) := by
  intro T hT X
  have htr : e.platform.stackTraces = false := (show e.platform.stackTraces = l.stackTraces by rw [X.admits.platform]).trans hl
  have Y := vx_rebase X (R' := { frames := R.frames, locals := R.locals, cells := 1, slots := 6 }) (Nat.le_refl _) (Nat.le_refl _) hRcells hRslots
  obtain ⟨s', hA⟩ : ∃ z, z = (T.setVm s.vm).setFrames (.invoking m args :: below) := ⟨_, rfl⟩
  rw [← hA] at Y
  have hvm : s'.vm = s.vm := by rw [hA]; rfl
  have hhp : s'.heap = H := by rw [hA]; exact hT
  have hW0 : s.WarmedH s'.vm := by rw [hvm]; exact State.WarmedH.refl s
  have hat' : ∀ w ∈ vx_atS own ic cls names, w.before args s' = true := fun w hw => vx_ot_at hW0 hvm.symm (hgood w (List.mem_cons_of_mem _ (List.mem_cons_of_mem _ hw))) (hat w hw)
  have hk' : (Cond.classLink own ik cls).before args s' = true := vx_ot_at hW0 hvm.symm (hgood _ List.mem_cons_self) hk
  have hini' : (Cond.initialized cls).before args s' = true := vx_ot_at hW0 hvm.symm (hgood _ (List.mem_cons_of_mem _ List.mem_cons_self)) hini
  have hU' : vx_Zq Bundle.tN "UNASSIGNED_STACK" Bundle.steD A s' s'.heap := by rw [hhp]; exact vx_Zq.moved hW0.alike (hU.kept hS.2.1)
  have hN' : vx_Zq Bundle.tN "SUPPRESSED_SENTINEL" Bundle.listD A s' s'.heap := by rw [hhp]; exact vx_Zq.moved hW0.alike (hN.kept hS.2.1)
  have h : ∀ w ∈ Bundle.ownAtoms own ic cls names, w.before args s' = true := vx_own hat' (vx_isRefq hU'.1) (vx_isRefq hN'.1) hU'.2.word hN'.2.word
  have hown' : s'.vm.findClass own = some m.cls := by rw [hvm]; exact hown
  have hins : (Cond.instantiable cls 6).before args s' = true := h _ (by simp [Bundle.ownAtoms])
  obtain ⟨vm₁, cX, kX, hfX, hkX, -, -, X₁, st1⟩ := Y.newCold hexec (own := own) (C := cls) (index := ik) (n := 6) hown' hk' hins hini'
    (g := F0 m pc ls rest) rfl (by rw [hb]; exact d0) (Nat.le_refl _) (Nat.le_refl _)
  generalize hT1 : (T.setVm vm₁).pushCell { cls := cX, slots := kX.instanceTypes.map defaultValue, vm := .none } = T1 at X₁ st1
  have hcat : (Value.ref T.heap.size).category = 1 := rfl
  have hcellA : T1.heap[T.heap.size]? = some (freshCell cX kX) := by rw [← hT1]; exact State.heap_pushCell_size _ _
  have d3' : decode c.code (pc + 3) = .ok (.dup, 1) := by rw [hb]; exact d3
  have d4' : decode c.code (pc + 4) = .ok (.ldc is, 2) := by rw [hb]; exact d4
  have hstr' : vk_R own is text sa s' := vk_R.warm hW0 hstr
  obtain ⟨U, hsteps, hrun, hend, hW, hsame, ce, hce, hO⟩ := X₁.ctorThrowS hexec htr (own := own) (cls := cls) (names := names) (ic := ic) hown' hcls hnames h (fun x hx => nomatch hx) hfX hkX hcellA (by rw [hhp, hT]; exact Nat.le_refl _) (msg := .ref sa) rfl
    (g := { method := m, pc := pc + 6, locals := ls, stack := .ref sa :: .ref T.heap.size :: .ref T.heap.size :: rest, locked := none }) rfl hsize rfl rfl (rest := rest) rfl
    (by rw [hb]; exact d6) (by rw [hb]; exact d9) hout hRframes (by simp only [List.map_cons, List.sum_cons, hcat]; omega) hlocks
  obtain ⟨f1, f2⟩ := vx_frame hsame
  rw [hhp] at f1 f2
  have fsz : U.heap.size = H.size + 1 := by
    have g1 := (Array.getElem?_eq_some_iff.mp hce).1
    have g2 : U.heap.size ≤ s'.heap.size + 1 := hsame.2.2.1
    rw [hhp] at g2
    rw [hT] at g1
    omega
  have hWs : s.WarmedH U.vm := State.WarmedH.trans hW0 hW
  have hcl : s.vm.findClass cls = some ce.cls := by
    have h9 := hO.cls
    rw [hvm] at h9
    exact h9
  have hall : s.sameButNew ({ U with vm := s.vm } : State) locs mc ms := by
    subst hA
    obtain ⟨e1, e2⟩ := hsame
    rw [State.setFrames_setFrames] at e1
    have h2 : (T.setVm s.vm).sameButNew ({ U with vm := s.vm } : State) [] (0 + 1) (0 + 6) := ⟨e1, e2⟩
    have h3 := X.same.trans h2
    rw [List.append_nil] at h3
    exact h3.mono hc hs
  refine ⟨U, ?_, .threw T.heap.size, hrun, hend, Or.inr ⟨T.heap.size, rfl, cls, ce, locs, hx U hWs.alike fsz (fun q hq => f2 q hq (fun z hz => nomatch hz)), hce, hO.vm, hcl, hWs, hall, hf⟩⟩
  refine st1 _ ?_
  show Steps p.tables e below (T1.setTop { method := m, pc := pc + 3, locals := ls, stack := .ref T.heap.size :: rest, locked := none }) _
  jvm_step X₁.here [X₁.here.top, hexec, d3', Value.category]
  exact X₁.ldcString hexec (own := own) (text := text) (index := is) (a := sa) hown' hstr'.1 hstr'.2
    (g := { method := m, pc := pc + 4, locals := ls, stack := .ref T.heap.size :: .ref T.heap.size :: rest, locked := none }) rfl d4' _ hsteps
end Thr
def isCD : Cond → Bool
  | .castable _ _ => true
  | .declares _ => true
  | _ => false
theorem CX.wd {γ : Gm} {M : MI} {X0 X' : Sh} {p : Program} {R : Room} {s : State} {m : MethodId} {args : Array Value} {meth : Method} {c : Code} (C : CX γ M X0 X' p R s m args meth c) {w : Cond} (hw : w ∈ lw_tbl) (h : (goodWord w || isCD w) = true) : w.before args s = true := by
  rw [Bool.or_eq_true] at h
  rcases h with h | h
  · exact C.hts w (List.mem_filter.mpr ⟨hw, h⟩)
  · obtain ⟨b, h1, -⟩ := C.gok.2.2
    have h2 := h1 w hw
    cases w <;> first | (cases h; done) | skip
    · exact va_tabs rfl (rfl : (γ.s.setVm s.vm).vm = s.vm) (by rw [Cond.declares_setVm C.warm.alike]; exact h2)
    · exact va_tabs rfl (rfl : (γ.s.setVm s.vm).vm = s.vm) (by rw [Cond.castable_setVm C.warm.alike]; exact h2)
theorem at_Index : ((Cond.classLink "HundiHall" 3 "java/lang/IndexOutOfBoundsException" :: Cond.initialized "java/lang/IndexOutOfBoundsException" :: vx_atS "HundiHall" 7 "java/lang/IndexOutOfBoundsException" ["java/lang/RuntimeException", "java/lang/Exception"]).all (fun w => lw_tbl.elem w && (goodWord w || isCD w))) = true := by decide +kernel
theorem ot_Index : ((Cond.classLink "HundiHall" 3 "java/lang/IndexOutOfBoundsException" :: Cond.initialized "java/lang/IndexOutOfBoundsException" :: vx_atS "HundiHall" 7 "java/lang/IndexOutOfBoundsException" ["java/lang/RuntimeException", "java/lang/Exception"]).all (fun w => vx_ot w)) = true := by decide +kernel
theorem at_Argument : ((Cond.classLink "HundiHall" 11 "java/lang/IllegalArgumentException" :: Cond.initialized "java/lang/IllegalArgumentException" :: vx_atS "HundiHall" 15 "java/lang/IllegalArgumentException" ["java/lang/RuntimeException", "java/lang/Exception"]).all (fun w => lw_tbl.elem w && (goodWord w || isCD w))) = true := by decide +kernel
theorem ot_Argument : ((Cond.classLink "HundiHall" 11 "java/lang/IllegalArgumentException" :: Cond.initialized "java/lang/IllegalArgumentException" :: vx_atS "HundiHall" 15 "java/lang/IllegalArgumentException" ["java/lang/RuntimeException", "java/lang/Exception"]).all (fun w => vx_ot w)) = true := by decide +kernel
theorem at_State : ((Cond.classLink "HundiHall" 16 "java/lang/IllegalStateException" :: Cond.initialized "java/lang/IllegalStateException" :: vx_atS "HundiHall" 20 "java/lang/IllegalStateException" ["java/lang/RuntimeException", "java/lang/Exception"]).all (fun w => lw_tbl.elem w && (goodWord w || isCD w))) = true := by decide +kernel
theorem ot_State : ((Cond.classLink "HundiHall" 16 "java/lang/IllegalStateException" :: Cond.initialized "java/lang/IllegalStateException" :: vx_atS "HundiHall" 20 "java/lang/IllegalStateException" ["java/lang/RuntimeException", "java/lang/Exception"]).all (fun w => vx_ot w)) = true := by decide +kernel
def pth : List Bool → Cond → Cond
  | [], c => c
  | true :: p, c => pth p (cL c)
  | false :: p, c => pth p (cR c)
theorem pth_ok {args : Array Value} {s : State} : ∀ (p : List Bool) (c : Cond), c.before args s = true → (pth p c).before args s = true
  | [], _, h => h
  | true :: p, _, h => pth_ok p _ (cL_ok h)
  | false :: p, _, h => pth_ok p _ (cR_ok h)
theorem zq_U {γ : Gm} (h : GOK γ) : vx_Zq Bundle.tN "UNASSIGNED_STACK" Bundle.steD (frG γ) γ.s γ.s.heap := by
  obtain ⟨-, -, b, h1, h2⟩ := h
  exact vx_Zqof (args := #[Value.ref b]) (h1 _ q282) (h1 _ (List.mem_filter.mp q46).1) (pth_ok [false, true, true, true, true, false, true, false] _ h2) (fun q hq hz => absurd hz (Nat.not_le.mpr hq))
theorem zq_N {γ : Gm} (h : GOK γ) : vx_Zq Bundle.tN "SUPPRESSED_SENTINEL" Bundle.listD (frG γ) γ.s γ.s.heap := by
  obtain ⟨-, -, b, h1, h2⟩ := h
  exact vx_Zqof (args := #[Value.ref b]) (h1 _ q284) (h1 _ (List.mem_filter.mp q46).1) (pth_ok [false, true, true, true, true, false, false, true] _ h2) (fun q hq hz => absurd hz (Nat.not_le.mpr hq))
theorem st_ex {γ : Gm} (h : GOK γ) {k : Nat} {tx : String} (p : List Bool) (hw : Cond.stringRef "HundiHall" k tx ∈ lw_tbl) (hp : pth p (Cond.and given_1 narrow_1) = .exactly (.string "HundiHall" k) "java/lang/String") : ∃ sa : Nat, vk_R "HundiHall" k tx sa γ.s := by
  obtain ⟨-, -, b, h1, h2⟩ := h
  have h3 := pth_ok p _ h2
  rw [hp] at h3
  obtain ⟨a, c, cell, k', e1, -⟩ := Cond.exactly_spec h3
  exact ⟨a, vk_R.of (A := #[Value.ref b]) (h1 _ hw) e1⟩
section ThrR
variable {γ : Gm} {M : MI} {X0 X : Sh} {pc : Nat} {lv : List (Option Value)} {rest : List Value} {Q : Ot → Sh → Prop}
theorem sw_thr {cls text : String} {ik is_ ic : Nat} (hM : M.y.cls = "HundiHall") (hh : M.hh = []) (hdp : 6 ≤ M.dp) (hfit : Bundle.fit cls = true) (hcat : (rest.map fun v => v.category).sum ≤ 8)
    (hat : ((Cond.classLink "HundiHall" ik cls :: Cond.initialized cls :: vx_atS "HundiHall" ic cls ["java/lang/RuntimeException", "java/lang/Exception"]).all (fun w => lw_tbl.elem w && (goodWord w || isCD w))) = true)
    (hot : ((Cond.classLink "HundiHall" ik cls :: Cond.initialized cls :: vx_atS "HundiHall" ic cls ["java/lang/RuntimeException", "java/lang/Exception"]).all (fun w => vx_ot w)) = true)
    (hstr : ∀ γ, GOK γ → ∃ sa : Nat, vk_R "HundiHall" is_ text sa γ.s)
    (d0 : decode M.cd pc = .ok (.new ik, 3)) (d3 : decode M.cd (pc + 3) = .ok (.dup, 1)) (d4 : decode M.cd (pc + 4) = .ok (.ldc is_, 2)) (d6 : decode M.cd (pc + 6) = .ok (.invokespecial ic, 3)) (d9 : decode M.cd (pc + 9) = .ok (.athrow, 1))
    (kk : Q (.inr cls) (X.1 + 1, X.2.1 + 6, X.2.2)) : SW γ M X0 X pc lv rest Q := by
  refine ⟨.inr cls, (X.1 + 1, X.2.1 + 6, X.2.2), kk, Nat.le_succ _, Nat.le_add_right _ _, ?_⟩
  intro p e R s m args below meth c H locs ls C hR hL hl hz hz2
  obtain ⟨sa, hsa⟩ := hstr γ C.gok
  have a1 : X.1 + 1 - X0.1 ≤ R.cells := C.rce
  have a2 : X.2.1 + 6 - X0.2.1 ≤ R.slots := C.rsl
  have a3 := C.rfr
  have a4 := C.rlo
  have hz : X0.1 ≤ X.1 := hz
  have hz2 : X0.2.1 ≤ X.2.1 := hz2
  have hwd : ∀ w ∈ (Cond.classLink "HundiHall" ik cls :: Cond.initialized cls :: vx_atS "HundiHall" ic cls ["java/lang/RuntimeException", "java/lang/Exception"]), w.before args s = true := fun w hw => by
    have h1 := List.all_eq_true.mp hat w hw
    rw [Bool.and_eq_true] at h1
    exact C.wd (List.elem_iff.mp h1.1) h1.2
  refine wx_throwS (A := frG γ) (names := ["java/lang/RuntimeException", "java/lang/Exception"]) C.exec C.code C.gok.1 (hM ▸ C.own) hfit (fun n hn => ?_) (hwd _ List.mem_cons_self) (hwd _ (List.mem_cons_of_mem _ List.mem_cons_self)) (vk_R.warm C.warm hsa) (fun w hw => hwd w (List.mem_cons_of_mem _ (List.mem_cons_of_mem _ hw))) (fun w hw => List.all_eq_true.mp hot w hw)
    (vx_Zq.kept (vx_Zq.moved C.warm.alike (zq_U C.gok)) (fun q hq hz => C.rl0.2.2.1 q (Nat.lt_of_not_le hz))) (vx_Zq.kept (vx_Zq.moved C.warm.alike (zq_N C.gok)) (fun q hq hz => C.rl0.2.2.1 q (Nat.lt_of_not_le hz)))
    (C.va hR hL hz) (hl.1.trans C.maxL.symm) d0 d3 d4 d6 d9 (fun x hx => ?_) ?_ ?_ ?_ ?_ C.locks (fun t hv hs hq => ⟨rfl, ?_⟩) hL ?_ ?_
  · simp only [List.mem_cons, List.not_mem_nil, or_false] at hn
    rcases hn with rfl | rfl <;> decide
  · rw [C.tab, hh] at hx; cases hx
  · show 2 + 3 < R.frames; omega
  · show _ + (13 * 3 + 43) ≤ R.locals; omega
  · show X.1 - X0.1 + 1 ≤ R.cells; omega
  · show X.2.1 - X0.2.1 + 6 ≤ R.slots; omega
  · refine ⟨by rw [hs, hR.1], Nat.le_trans hR.2.1 (Nat.le_succ _), fun q h => ?_, fun a e he => ?_⟩
    · rw [hq q (by rw [hR.1]; exact Nat.lt_of_lt_of_le h hR.2.1)]; exact hR.2.2.1 q h
    · have hlt := hR.lt he
      refine ⟨(hR.2.2.2 a e he).1, (hR.2.2.2 a e he).2.kept (hq a (by rw [hR.1]; exact hlt))⟩
  · show X.1 - X0.1 + 1 ≤ X.1 + 1 - X0.1; omega
  · show X.2.1 - X0.2.1 + 6 ≤ X.2.1 + 6 - X0.2.1; omega
end ThrR
section Needs
variable {γ : Gm} {X : Sh}
theorem st_Index (γ : Gm) (h : GOK γ) : ∃ sa : Nat, vk_R "HundiHall" 5 "there is none" sa γ.s := st_ex h [false, false, true, false, true, false, false, true] q368 rfl
theorem cl_needIndex {P : Prop} : Ev γ mX1_needIndex [.int (b2 P)] X (fun oc X1 => (P ∧ oc = .inl none ∧ X1 = X) ∨ (¬ P ∧ oc = .inr "java/lang/IndexOutOfBoundsException" ∧ X1 = (X.1 + 1, X.2.1 + 6, X.2.2))) := by
  refine Ev.of (lv := [_]) 0 ⟨by decide +kernel, rfl, (Nat.le_of_ble_eq_true rfl)⟩ rfl ?_
  refine sw_iload_n 1 rfl rfl dX1_needIndex_0 ?_
  refine sw_if_ne 14 4 (by decide) rfl dX1_needIndex_1 (fun c_1 => ?_) (fun c_1 => ?_)
  · rw [b2_n] at c_1
    refine sw_vret rfl dX1_needIndex_14 ?_
    exact Or.inl ⟨c_1, rfl, rfl⟩
  · rw [b2_0] at c_1
    exact sw_thr rfl rfl (Nat.le_of_ble_eq_true rfl) (by decide) (by decide) at_Index ot_Index st_Index dX1_needIndex_4 dX1_needIndex_7 dX1_needIndex_8 dX1_needIndex_10 dX1_needIndex_13 (Or.inr ⟨c_1, rfl, rfl⟩)
theorem st_Argument (γ : Gm) (h : GOK γ) : ∃ sa : Nat, vk_R "HundiHall" 13 "out of range" sa γ.s := st_ex h [false, false, false, true, true, true, false, false, true] q384 rfl
theorem cl_needArgument {P : Prop} : Ev γ mX1_needArgument [.int (b2 P)] X (fun oc X1 => (P ∧ oc = .inl none ∧ X1 = X) ∨ (¬ P ∧ oc = .inr "java/lang/IllegalArgumentException" ∧ X1 = (X.1 + 1, X.2.1 + 6, X.2.2))) := by
  refine Ev.of (lv := [_]) 0 ⟨by decide +kernel, rfl, (Nat.le_of_ble_eq_true rfl)⟩ rfl ?_
  refine sw_iload_n 1 rfl rfl dX1_needArgument_0 ?_
  refine sw_if_ne 14 4 (by decide) rfl dX1_needArgument_1 (fun c_1 => ?_) (fun c_1 => ?_)
  · rw [b2_n] at c_1
    refine sw_vret rfl dX1_needArgument_14 ?_
    exact Or.inl ⟨c_1, rfl, rfl⟩
  · rw [b2_0] at c_1
    exact sw_thr rfl rfl (Nat.le_of_ble_eq_true rfl) (by decide) (by decide) at_Argument ot_Argument st_Argument dX1_needArgument_4 dX1_needArgument_7 dX1_needArgument_8 dX1_needArgument_10 dX1_needArgument_13 (Or.inr ⟨c_1, rfl, rfl⟩)
theorem st_State (γ : Gm) (h : GOK γ) : ∃ sa : Nat, vk_R "HundiHall" 18 "not possible now" sa γ.s := st_ex h [false, false, false, true, false, false, false, false, false] q406 rfl
theorem cl_needState {P : Prop} : Ev γ mX1_needState [.int (b2 P)] X (fun oc X1 => (P ∧ oc = .inl none ∧ X1 = X) ∨ (¬ P ∧ oc = .inr "java/lang/IllegalStateException" ∧ X1 = (X.1 + 1, X.2.1 + 6, X.2.2))) := by
  refine Ev.of (lv := [_]) 0 ⟨by decide +kernel, rfl, (Nat.le_of_ble_eq_true rfl)⟩ rfl ?_
  refine sw_iload_n 1 rfl rfl dX1_needState_0 ?_
  refine sw_if_ne 14 4 (by decide) rfl dX1_needState_1 (fun c_1 => ?_) (fun c_1 => ?_)
  · rw [b2_n] at c_1
    refine sw_vret rfl dX1_needState_14 ?_
    exact Or.inl ⟨c_1, rfl, rfl⟩
  · rw [b2_0] at c_1
    exact sw_thr rfl rfl (Nat.le_of_ble_eq_true rfl) (by decide) (by decide) at_State ot_State st_State dX1_needState_4 dX1_needState_7 dX1_needState_8 dX1_needState_10 dX1_needState_13 (Or.inr ⟨c_1, rfl, rfl⟩)
end Needs
