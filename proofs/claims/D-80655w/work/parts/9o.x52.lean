/-! ===== tallies ===== -/
abbrev yT_more : MethodName := ⟨"ReflectMirror$Tally", "more", "()V"⟩
abbrev yT_told : MethodName := ⟨"ReflectMirror$Tally", "told", "()I"⟩
abbrev yT_next : MethodName := ⟨"ReflectMirror$Tally", "next", "()I"⟩
abbrev zTl (θ : zTh) (k : Int) : va_E := .inl (θ.1.1 1, 1, .inl (fun _ => iI k))
/-- a tally's cell -/
abbrev tyC (θ : zTh) (k : Int) : Cell := arrV (θ.1.1 1) 1 (fun _ => .int (iI k))
theorem tyC_at {θ : zTh} {k : Int} : (tyC θ k).slots[0]? = some (.int (iI k)) := by simp [tyC, arrV]
theorem tyC_set {θ : zTh} {k k' : Int} : (tyC θ k).setSlot 0 (.int (iI k')) = tyC θ k' := by
  unfold tyC arrV Cell.setSlot
  congr 1
theorem tyC_free {θ : zTh} {k : Int} {t : ThreadId} : (tyC θ k).enterable t := Or.inl ⟨rfl, rfl⟩
theorem sy_left {X : Cell} {t : ThreadId} {i : Nat} {v : Value} (h : X.enterable t) : ((X.withEntry t).setSlot i v).left = X.setSlot i v := by
  have e1 : (X.withEntry t).setSlot i v = { X.withEntry t with slots := (X.setSlot i v).slots } := rfl
  rw [e1, Cell.left_withSlots, Cell.left_withEntry' h]
  rfl
/-- the field of a tally -/
theorem ty_info {θ : zTh} {s : State} {args : Array Value} (hts : ∀ w ∈ lw_all, w.before args s = true) (hK : va_K θ.1 zCl (zTys θ) s) : ∃ cf kf fi fd, s.fieldFound? "ReflectMirror$Tally" "many" "I" = some (cf, kf, fi, fd) ∧ fd.isStatic = false ∧ fd.slot = 0 ∧ ∀ z : Int, k2_Sd s fd (θ.1.1 1) (.int (iI z)) := by
  obtain ⟨hS1, hfc, kC, hkC, hkind⟩ := hK.1 1 _ zk_X1.1
  obtain ⟨cf, kf, fi, fd, hi, -⟩ := hS1 0 (by decide)
  have hi' : s.fieldFound? "ReflectMirror$Tally" "many" "I" = some (cf, kf, fi, fd) := hi
  have hlay := hts _ (zk_X1.2.1 _ (u_in_lay (k := 0) (by decide)))
  have hlay2 : (Cond.lays "ReflectMirror$Tally" "ReflectMirror$Tally" "many" "I").before args s = true := hlay
  obtain ⟨f1, -, f3⟩ := u_facts hfc hkC (Or.inl hlay2) hi'
  obtain ⟨c9, k9, r1, r2, -, -, -, hsz⟩ := Cond.instantiable_spec (hts _ q156)
  cases hfc.symm.trans r1
  cases hkC.symm.trans r2
  have hlt := (Array.getElem?_eq_some_iff.mp f3).1
  exact ⟨cf, kf, fi, fd, hi', f1, by omega, fun z => u_store hfc hkC hkind hlay2 hi' (ty := .int) rfl rfl rfl⟩
/-- a tally in reach, its monitor free or the thread's own -/
def tyP (θ : zTh) (a : Nat) (X : Cell) (k : Int) : Array Value → State → Prop := fun v U => v = #[.ref a] ∧ U.heap[a]? = some X ∧ X.enterable U.cur ∧ X.cls = θ.1.1 1 ∧ X.vm = .none ∧ X.slots[0]? = some (.int (iI k)) ∧ zA θ a ∧ va_K θ.1 zCl (zTys θ) U
theorem tyP_blind {θ : zTh} {a : Nat} {X : Cell} {k : Int} : FrameBlind (tyP θ a X k) := by
  intro v U g mk h
  obtain ⟨h1, h2, h3, h4, h5, h6, h7, h8⟩ := h
  exact ⟨h1, h2, h3, h4, h5, h6, h7, va_K.moved (u := U) (U := U.calling g mk v) (Vm.Alike.refl U.vm) h8⟩
def tyQ (θ : zTh) (a : Nat) (v : Option Value) (X' : Cell) : Array Value → State → Outcome → State → Prop := fun _ st o t => o = .returned v ∧ t.heap = st.heap.setIfInBounds a X'
theorem sy_heap {s : State} {a : Nat} {X Y : Cell} : ((s.setCell a X).heap.setIfInBounds a Y) = s.heap.setIfInBounds a Y := by
  show (s.heap.setIfInBounds a X).setIfInBounds a Y = _
  rw [Array.setIfInBounds_setIfInBounds]
theorem sy_own {H : Heap} {a : Nat} {X Y : Cell} (h : H[a]? = some X) : (H.setIfInBounds a Y)[a]? = some Y := by
  have ha : a < H.size := (Array.getElem?_eq_some_iff.mp h).1
  simp [ha]
theorem sy_args {s : State} {a : Nat} {args : Array Value} (x : Cell) (hts : ∀ w ∈ lw_all, w.before args s = true) : ∀ w ∈ lw_all, w.before args (s.setCell a x) = true := fun w hw => pay_in hts lw_self w hw args (s.setCell a x) (State.WarmedH.refl s)
theorem dT_m0 : decode prog_25_method_2_code 0 = .ok (.aload_n 0, 1) := by rfl
theorem dT_m1 : decode prog_25_method_2_code 1 = .ok (.dup, 1) := by rfl
theorem dT_m2 : decode prog_25_method_2_code 2 = .ok (.getfield 7, 3) := by rfl
theorem dT_m5 : decode prog_25_method_2_code 5 = .ok (.iconst 1, 1) := by rfl
theorem dT_m6 : decode prog_25_method_2_code 6 = .ok (.iadd, 1) := by rfl
theorem dT_m7 : decode prog_25_method_2_code 7 = .ok (.putfield 7, 3) := by rfl
theorem dT_m10 : decode prog_25_method_2_code 10 = .ok (.return_, 1) := by rfl
theorem dT_t0 : decode prog_25_method_3_code 0 = .ok (.aload_n 0, 1) := by rfl
theorem dT_t1 : decode prog_25_method_3_code 1 = .ok (.getfield 7, 3) := by rfl
theorem dT_t4 : decode prog_25_method_3_code 4 = .ok (.ireturn, 1) := by rfl
theorem dT_n0 : decode prog_25_method_4_code 0 = .ok (.aload_n 0, 1) := by rfl
theorem dT_n1 : decode prog_25_method_4_code 1 = .ok (.invokevirtual 13, 3) := by rfl
theorem dT_n4 : decode prog_25_method_4_code 4 = .ok (.aload_n 0, 1) := by rfl
theorem dT_n5 : decode prog_25_method_4_code 5 = .ok (.invokevirtual 16, 3) := by rfl
theorem dT_n8 : decode prog_25_method_4_code 8 = .ok (.ireturn, 1) := by rfl
theorem sy_l1 (a : Nat) : argsToLocals #[.ref a] 1 = #[Slot.val (.ref a)] := by rfl
theorem k1_more {l : Launch} {θ : zTh} {a : Nat} {X : Cell} {k : Int} : Met l yT_more lw_all ⟨0, 0, 0, 0⟩ (tyP θ a X k) (tyQ θ a none (X.setSlot 0 (.int (iI (k + 1))))) 0 0 (zA θ) := by
  refine sy_met (cc := prog_25_method_2_code) (nL := 1) (ret := none) rfl q1713 q1711 (fun args s h => ⟨a, X, by rw [h.1]; rfl, h.2.1, h.2.2.1⟩) ?_
  intro p e s m args below meth c a' cell hx hown hts hret hlk hb hml hP harg hcell hent
  obtain ⟨rfl, hX, hE, hc1, hc2, hc3, hA, hK⟩ := hP
  have ea : a = a' := Value.ref.inj (Option.some.inj harg)
  subst ea
  have ec : X = cell := Option.some.inj (hX.symm.trans hcell)
  subst ec
  have hts' := sy_args (a := a) (X.withEntry s.cur) hts
  obtain ⟨cf, kf, fi, fd, hi, hst, hsl, hSd⟩ := ty_info (θ := θ) (s := s.setCell a (X.withEntry s.cur)) hts' (va_K.moved (u := s) (U := s.setCell a (X.withEntry s.cur)) (Vm.Alike.refl s.vm) hK)
  have hH : (s.setCell a (X.withEntry s.cur)).heap[a]? = some (X.withEntry s.cur) := sy_own hcell
  have hown' : (s.setCell a (X.withEntry s.cur)).vm.findClass "ReflectMirror$Tally" = some m.cls := hown
  have hlt : 0 < X.slots.size := (Array.getElem?_eq_some_iff.mp hc3).1
  show W p l e _ (s.setCell a (X.withEntry s.cur)) m _ below meth c _ [] 0 0 _ (FS m 0 (argsToLocals #[.ref a] 1) [] a)
  rw [sy_l1]
  refine sy_aload0 hx hb dT_m0 rfl ?_
  refine sy_dup hx hb dT_m1 rfl ?_
  refine W.getf hx hb hown' (hts' _ q161) hi hst (a := a) (cell := X.withEntry s.cur) (v := .int (iI k)) hH (by rw [show (X.withEntry s.cur).vm = X.vm from rfl, hc2]; exact fun h => by cases h) (by rw [hsl]; exact hc3) rfl rfl dT_m2 ?_
  refine sy_iconst1 hx hb dT_m5 ?_
  refine sy_iadd hx hb dT_m6 ?_
  rw [iI_add]
  refine W.putf hx hb hown' (hts' _ q161) hi hst (Or.inl (hSd (k + 1)).1) (a := a) (cell := X.withEntry s.cur) (v := .int (iI (k + 1))) hH (by rw [show (X.withEntry s.cur).vm = X.vm from rfl, hc2]; exact fun h => by cases h) (by rw [hsl]; exact hlt) (hSd (k + 1)).2.1 (by rw [show (X.withEntry s.cur).vm = X.vm from rfl, show (X.withEntry s.cur).cls = X.cls from rfl, hc2, hc1]; exact (hSd (k + 1)).2.2) rfl rfl dT_m7 ?_
  rw [hsl]
  refine sy_vret (cellT := (X.withEntry s.cur).setSlot 0 (.int (iI (k + 1)))) hx hb hlk hret hcell hent (sy_own hH) (fun t ht hW => ⟨rfl, ?_⟩) (fun q hq => ?_) dT_m10
  · rw [ht, sy_left hent, Array.setIfInBounds_setIfInBounds, sy_heap]
  · have e9 : q = ⟨a, 0⟩ := by simpa using hq
    rw [e9]; exact hA
theorem k1_told0 {l : Launch} {θ : zTh} {a : Nat} {X : Cell} {k : Int} : Met l yT_told lw_all ⟨0, 0, 0, 0⟩ (tyP θ a X k) (tyQ θ a (some (.int (iI k))) X) 0 0 (zA θ) := by
  refine sy_met (cc := prog_25_method_3_code) (nL := 1) (ret := some .int) rfl q1717 q1715 (fun args s h => ⟨a, X, by rw [h.1]; rfl, h.2.1, h.2.2.1⟩) ?_
  intro p e s m args below meth c a' cell hx hown hts hret hlk hb hml hP harg hcell hent
  obtain ⟨rfl, hX, hE, hc1, hc2, hc3, hA, hK⟩ := hP
  have ea : a = a' := Value.ref.inj (Option.some.inj harg)
  subst ea
  have ec : X = cell := Option.some.inj (hX.symm.trans hcell)
  subst ec
  have hts' := sy_args (a := a) (X.withEntry s.cur) hts
  obtain ⟨cf, kf, fi, fd, hi, hst, hsl, hSd⟩ := ty_info (θ := θ) (s := s.setCell a (X.withEntry s.cur)) hts' (va_K.moved (u := s) (U := s.setCell a (X.withEntry s.cur)) (Vm.Alike.refl s.vm) hK)
  have hH : (s.setCell a (X.withEntry s.cur)).heap[a]? = some (X.withEntry s.cur) := sy_own hcell
  have hown' : (s.setCell a (X.withEntry s.cur)).vm.findClass "ReflectMirror$Tally" = some m.cls := hown
  show W p l e _ (s.setCell a (X.withEntry s.cur)) m _ below meth c _ [] 0 0 _ (FS m 0 (argsToLocals #[.ref a] 1) [] a)
  rw [sy_l1]
  refine sy_aload0 hx hb dT_t0 rfl ?_
  refine W.getf hx hb hown' (hts' _ q161) hi hst (a := a) (cell := X.withEntry s.cur) (v := .int (iI k)) hH (by rw [show (X.withEntry s.cur).vm = X.vm from rfl, hc2]; exact fun h => by cases h) (by rw [hsl]; exact hc3) rfl rfl dT_t1 ?_
  refine sy_iret (cellT := X.withEntry s.cur) hx hb hlk hret hcell hent hH (fun t ht hW => ⟨rfl, ?_⟩) (fun q hq => by cases hq) dT_t4
  rw [ht, Cell.left_withEntry' hent, sy_heap]
/-- the picture with a tally anew -/
theorem zP_tl {θ : zTh} {M N : zMap} {H : Heap} {a : Nat} {k k' : Int} (hP : zP θ M N H) (hM : M a = some (zTl θ k)) : H[a]? = some (tyC θ k) ∧ zA θ a ∧ zP θ (zup M a (zTl θ k')) N (H.setIfInBounds a (tyC θ k')) := by
  obtain ⟨h1, h2⟩ := hP.1 a _ hM
  have h1' : H[a]? = some (tyC θ k) := h1
  refine ⟨h1', h2, ?_⟩
  obtain ⟨ws, w1, w2, w3⟩ := hP.ws
  obtain ⟨q0, hq0⟩ := w3.2.1 a _ hM
  refine zL.set hP w2 w3 hM hq0 (w1.set w2 hq0 (show (H.setIfInBounds a (tyC θ k'))[a]? = some (tyC θ k') from sy_own h1') (fun q hq => ?_))
  simp [Array.getElem?_setIfInBounds, Ne.symm hq]
theorem sy_F {θ : zTh} {s t : State} {a : Nat} {Y : Cell} (h : t.heap = s.heap.setIfInBounds a Y) (ha : zA θ a) : va_F (zA θ) s t := by
  refine ⟨by rw [h]; simp, fun q hq hn => ?_⟩
  have hne : q ≠ a := fun e => hn (e ▸ ha)
  rw [h]
  simp [Array.getElem?_setIfInBounds, Ne.symm hne]
theorem k1_next {l : Launch} {θ : zTh} {M N : zMap} {a : Nat} {k : Int} (hM : M a = some (zTl θ k)) : Met l yT_next lw_all ⟨1, 0, 0, 20⟩ (zPc θ [.ref a] (zP θ M N)) (zQc θ (zFn (some (.int (iI (k + 1)))) (zP θ (zup M a (zTl θ (k + 1))) N))) 0 0 (zA θ) := by
  refine sy_met (cc := prog_25_method_4_code) (nL := 1) (ret := some .int) rfl q1709 q1707 (fun args s h => ⟨a, tyC θ k, by rw [h.1]; rfl, (zP_tl (k' := k) h.2.1 hM).1, tyC_free⟩) ?_
  intro p e s m args below meth c a' cell hx hown hts hret hlk hb hml hP harg hcell hent
  obtain ⟨rfl, hPic, hU⟩ := hP
  have ea : a = a' := Value.ref.inj (Option.some.inj harg)
  subst ea
  obtain ⟨hX, hA, hZ9⟩ := zP_tl (k' := k + 1) hPic hM
  have ec : tyC θ k = cell := Option.some.inj (hX.symm.trans hcell)
  subst ec
  have hK := hU.2.2.2
  have hts' := sy_args (a := a) ((tyC θ k).withEntry s.cur) hts
  have hK' : va_K θ.1 zCl (zTys θ) (s.setCell a ((tyC θ k).withEntry s.cur)) := va_K.moved (u := s) (U := s.setCell a ((tyC θ k).withEntry s.cur)) (Vm.Alike.refl s.vm) hK
  have hH : (s.setCell a ((tyC θ k).withEntry s.cur)).heap[a]? = some ((tyC θ k).withEntry s.cur) := sy_own hcell
  have hown' : (s.setCell a ((tyC θ k).withEntry s.cur)).vm.findClass "ReflectMirror$Tally" = some m.cls := hown
  have hfc : (s.setCell a ((tyC θ k).withEntry s.cur)).vm.findClass "ReflectMirror$Tally" = some (θ.1.1 1) := (hK.1 1 _ zk_X1.1).2.1
  have hcur : (s.setCell a ((tyC θ k).withEntry s.cur)).cur = s.cur := rfl
  have hS : CallFix p m c prog_25_method_4_code 1 (s.setCell a ((tyC θ k).withEntry s.cur)) #[.ref a] lw_all "ReflectMirror$Tally" := ⟨hx, hb, hml, hown', hts'⟩
  have hent1 : ((tyC θ k).withEntry s.cur).enterable s.cur := Or.inr ⟨rfl, Nat.le_refl 1⟩
  show W p l e _ (s.setCell a ((tyC θ k).withEntry s.cur)) m _ below meth c _ [] 0 0 _ (FS m 0 (argsToLocals #[.ref a] 1) [] a)
  rw [sy_l1]
  refine sy_aload0 hx hb dT_n0 rfl ?_
  refine sy_go (rest := []) (sy_run (As := []) (b := a) (Cn := "ReflectMirror$Tally") hS (k1_more (θ := θ) (a := a) (X := (tyC θ k).withEntry s.cur) (k := k)) rfl rfl (Nat.le_refl 1) (Nat.le_refl 20) lw_self q1713 q91 q1710 q1711 q1712 (by decide) tyP_blind ⟨_, hH, rfl, hfc⟩ (fun U u1 u2 u3 => ⟨rfl, by rw [u1]; exact hH, by rw [u2]; exact hent1, rfl, rfl, tyC_at (θ := θ), hA, va_K.moved u3.alike hK'⟩) rfl rfl rfl (show 2 * 1 + 0 ≤ 8 by decide) dT_n1 ⟨Nat.zero_le _, Nat.zero_le _⟩) (fun v st0 t L h0 hq hL => ?_)
  obtain ⟨hv, ht⟩ := hq
  cases hv
  rw [h0] at ht
  rw [ht]
  have hH1 := sy_own (Y := ((tyC θ k).withEntry s.cur).setSlot 0 (.int (iI (k + 1)))) hH
  have hc9 : (((tyC θ k).withEntry s.cur).setSlot 0 (.int (iI (k + 1)))).slots[0]? = some (.int (iI (k + 1))) := by
    show ((tyC θ k).setSlot 0 (.int (iI (k + 1)))).slots[0]? = _
    rw [tyC_set]; exact tyC_at
  refine sy_aload0 hx hb dT_n4 rfl ?_
  refine sy_go (rest := []) (sy_run (As := []) (b := a) (Cn := "ReflectMirror$Tally") hS (k1_told0 (θ := θ) (a := a) (X := ((tyC θ k).withEntry s.cur).setSlot 0 (.int (iI (k + 1)))) (k := k + 1)) rfl rfl (Nat.le_refl 1) (Nat.le_refl 20) lw_self q1717 q91 q1714 q1715 q1716 (by decide) tyP_blind ⟨_, hH1, rfl, hfc⟩ (fun U u1 u2 u3 => ⟨rfl, by rw [u1]; exact hH1, by rw [u2]; exact hent1, rfl, rfl, hc9, hA, va_K.moved u3.alike hK'⟩) rfl rfl rfl (show 2 * 1 + 0 ≤ 8 by decide) dT_n5 ⟨Nat.zero_le _, Nat.zero_le _⟩) (fun v2 st1 t1 L1 h1 hq1 hL1 => ?_)
  obtain ⟨hv1, ht1⟩ := hq1
  cases hv1
  rw [h1, Array.setIfInBounds_setIfInBounds] at ht1
  rw [ht1]
  refine sy_iret (cellT := ((tyC θ k).withEntry s.cur).setSlot 0 (.int (iI (k + 1)))) hx hb hlk hret hcell hent hH1 (fun t9 ht9 hW9 => ?_) (fun q hq => ?_) dT_n8
  · rw [sy_left hent, tyC_set, Array.setIfInBounds_setIfInBounds, sy_heap] at ht9
    exact ⟨⟨_, _, rfl, ⟨rfl, rfl⟩, by rw [ht9]; exact hZ9⟩, sy_F ht9 hA⟩
  · rcases List.mem_append.mp hq with h9 | h9
    · rcases List.mem_append.mp h9 with h8 | h8
      · cases h8
      · exact hL q h8
    · exact hL1 q h9
theorem k1_told {l : Launch} {θ : zTh} {M N : zMap} {a : Nat} {k : Int} (hM : M a = some (zTl θ k)) : Met l yT_told lw_all ⟨0, 0, 0, 0⟩ (zPc θ [.ref a] (zP θ M N)) (zQc θ (zFn (some (.int (iI k))) (zP θ M N))) 0 0 (zA θ) := by
  intro p e ha hc hk s m args below hf happ hP hT
  obtain ⟨e1, hPic, hU⟩ := hP
  obtain ⟨hX, hA, -⟩ := zP_tl (k' := k) hPic hM
  obtain ⟨n, o, w, r, en, ⟨hv, hh⟩, L, hF⟩ := k1_told0 (l := l) (θ := θ) (a := a) (X := tyC θ k) (k := k) p e ha hc hk s m args below hf happ ⟨e1, hX, tyC_free, rfl, rfl, tyC_at, hA, hU.2.2.2⟩ hT
  have hs : s.heap.setIfInBounds a (tyC θ k) = s.heap := congrArg State.heap (State.setCell_same (s := s) hX)
  refine ⟨n, o, w, r, en, ⟨⟨_, _, hv, ⟨rfl, rfl⟩, ?_⟩, sy_F hh hA⟩, L, hF⟩
  rw [hh, hs]; exact hPic
section ZSY
variable {κ : zK} {own nm : String} {cc : ByteArray} {nL : Nat} {ret : Option FieldType} {rm : Room} {P : Option Value → (Heap → Prop) → Prop} {n k pc : Nat} {lv : List (Nat × Value)} {rest : List Value}
variable {θ : zTh} {l : Launch} {M N : zMap} {a index : Nat} {z : Int}
theorem z_next (C : ZC κ own nm cc nL ret rm P) (hκ : κ.1 = θ) (hκl : κ.2.2.1 = l) (q : Nat) (hM : M a = some (zTl θ z)) (d : decode cc pc = .ok (.invokevirtual index, 3)) (h1 : Cond.methodLink own index yT_next ∈ lw_all) (hf : 2 ≤ rm.frames) (hlo : 40 ≤ rm.locals) (hce : n ≤ rm.cells) (hsl : k ≤ rm.slots) (hsz : (rest.map fun v => v.category).sum ≤ 8) (hq : pc + 3 = q) (kk : Z κ (zP θ (zup M a (zTl θ (z + 1))) N) n k q lv (.int (iI (z + 1)) :: rest)) : Z κ (zP θ M N) n k pc lv (.ref a :: rest) := by
  subst hq; subst hκ; subst hκl
  obtain ⟨θ, p, l, e, R, s, m, args, below, meth, c, Q⟩ := κ
  obtain ⟨hx, hb, hml, hown, hts, hU, hlk, hret, hnm, rfl, hQ⟩ := C
  intro H locs ls hP hS hl
  refine z_run (mc := 0) (ms := 0) (sy_run (As := []) (b := a) (Cn := "ReflectMirror$Tally") (rest := rest) ⟨hx, hb, hml, hown, hts⟩ (k1_next (N := N) hM) rfl rfl hf (by show 8 + (1 + 11) + 20 ≤ _; omega) lw_self q1709 q91 h1 q1707 q1708 (by decide) zPc_blind ⟨_, (zP_tl (k' := z) hP hM).1, rfl, (hU.2.2.2.1 1 _ zk_X1.1).2.1⟩ (fun U u1 _ u3 => ⟨rfl, by rw [u1]; exact hP, hU.on hS u1 u3⟩) rfl (by rw [← hml]; exact hl.1) rfl (lv_room hsz) d ⟨hce, hsl⟩) hS hl (fun v Pic1 h9 => ?_)
  obtain ⟨rfl, rfl⟩ := h9
  exact kk
theorem z_told (C : ZC κ own nm cc nL ret rm P) (hκ : κ.1 = θ) (hκl : κ.2.2.1 = l) (q : Nat) (hM : M a = some (zTl θ z)) (d : decode cc pc = .ok (.invokevirtual index, 3)) (h1 : Cond.methodLink own index yT_told ∈ lw_all) (hf : 1 ≤ rm.frames) (hlo : 20 ≤ rm.locals) (hce : n ≤ rm.cells) (hsl : k ≤ rm.slots) (hsz : (rest.map fun v => v.category).sum ≤ 8) (hq : pc + 3 = q) (kk : Z κ (zP θ M N) n k q lv (.int (iI z) :: rest)) : Z κ (zP θ M N) n k pc lv (.ref a :: rest) := by
  subst hq; subst hκ; subst hκl
  obtain ⟨θ, p, l, e, R, s, m, args, below, meth, c, Q⟩ := κ
  obtain ⟨hx, hb, hml, hown, hts, hU, hlk, hret, hnm, rfl, hQ⟩ := C
  intro H locs ls hP hS hl
  refine z_run (mc := 0) (ms := 0) (sy_run (As := []) (b := a) (Cn := "ReflectMirror$Tally") (rest := rest) ⟨hx, hb, hml, hown, hts⟩ (k1_told (N := N) hM) rfl rfl hf (by show 8 + (1 + 11) + 0 ≤ _; omega) lw_self q1717 q91 h1 q1715 q1716 (by decide) zPc_blind ⟨_, (zP_tl (k' := z) hP hM).1, rfl, (hU.2.2.2.1 1 _ zk_X1.1).2.1⟩ (fun U u1 _ u3 => ⟨rfl, by rw [u1]; exact hP, hU.on hS u1 u3⟩) rfl (by rw [← hml]; exact hl.1) rfl (lv_room hsz) d ⟨hce, hsl⟩) hS hl (fun v Pic1 h9 => ?_)
  obtain ⟨rfl, rfl⟩ := h9
  exact kk
end ZSY

