/-! ===== the natives of java.lang.reflect.Array: what they come to ===== -/
theorem zg_get (name letter rule : String) (x : FieldType) (a : Addr) (i : Int32) : (Native.java_lang_reflect_Array.elements.getX name letter rule x).sem #[.ref a, .int i] =
    (Native.java_lang_reflect_Array.elements.checkArray rule true (.ref a) >>= fun y => Native.java_lang_reflect_Array.elements.checkIndex rule y.1 i >>= fun j => readLoc y.1 j >>= fun u => match Native.java_lang_reflect_Array.elements.widen y.2.2 x u with | some v => (afterWidening y.2.2 x v >>= fun v => mark rule >>= fun _ => Pure.pure (some v)) | _ => Native.java_lang_reflect_Array.elements.mismatch rule) := rfl
theorem zg_set (name letter rule : String) (x : FieldType) (a : Addr) (i : Int32) (u : Value) : (Native.java_lang_reflect_Array.elements.setX name letter rule x).sem #[.ref a, .int i, u] =
    (Native.java_lang_reflect_Array.elements.checkArray rule true (.ref a) >>= fun y => Native.java_lang_reflect_Array.elements.checkIndex rule y.1 i >>= fun j => match Native.java_lang_reflect_Array.elements.widen x y.2.2 u with | some v => (afterWidening x y.2.2 v >>= fun v => mark rule >>= fun _ => writeLoc y.1 j (narrow y.2.2 v) >>= fun _ => Pure.pure none) | _ => Native.java_lang_reflect_Array.elements.mismatch rule) := rfl
def zRn : String := "nat.java_lang_reflect_Array.set"
theorem zg_stN (a : Addr) (i : Int32) : ∃ G : Addr × ClassId × FieldType → Sem (Option Value), Native.java_lang_reflect_Array.elements.set.sem #[.ref a, .int i, .null] = (Native.java_lang_reflect_Array.elements.checkArray zRn false (.ref a) >>= fun z => if Native.java_lang_reflect_Array.elements.isReference z.2.2 = true then (Native.java_lang_reflect_Array.elements.checkIndex zRn z.1 i >>= fun j => mark zRn >>= fun _ => writeLoc z.1 j .null >>= fun _ => Pure.pure none) else G z) := ⟨_, rfl⟩
theorem zg_stR (a o : Addr) (i : Int32) : ∃ G : Addr × ClassId × FieldType → Sem (Option Value), Native.java_lang_reflect_Array.elements.set.sem #[.ref a, .int i, .ref o] = (Native.java_lang_reflect_Array.elements.checkArray zRn false (.ref a) >>= fun z => if Native.java_lang_reflect_Array.elements.isReference z.2.2 = true then (Native.java_lang_reflect_Array.elements.checkIndex zRn z.1 i >>= fun j => isInstance o z.2.1 >>= fun b => if (!b) = true then (mark "nat.java_lang_reflect_Array.set/element-mismatch" >>= fun _ => throwNew "java/lang/IllegalArgumentException" (some "array element type mismatch") >>= fun (_ : PUnit) => mark zRn >>= fun _ => writeLoc z.1 j (.ref o) >>= fun _ => Pure.pure none) else (mark zRn >>= fun _ => writeLoc z.1 j (.ref o) >>= fun _ => Pure.pure none)) else G z) := ⟨_, rfl⟩
section ZAW
variable {name letter rule : String} {x ty : FieldType} {E : CtlPost} {e : Env} {d : Bool} {acts : List Action} {s : State} {a : Addr} {cell : Cell} {k : Class} {comp : ClassId} {i : Int32} {v v' : Value} {Q : Option Value → Pre}
theorem zw_getOk (hcell : s.heap[a]? = some cell) (hobj : ∀ k, cell.vm ≠ .statics k) (hk : s.vm.classes[cell.cls]? = some k) (hkind : k.kind = .array comp ty) (hkn : cell.vm ≠ .unknown) (hr : Native.java_lang_reflect_Array.elements.isReference ty = false) (h0 : ¬ i < 0) (h1 : i.toNatClampNeg < cell.slots.size) (hv : cell.slots[i.toNatClampNeg]? = some v) (hw : Native.java_lang_reflect_Array.elements.widen ty x v = some v') (ha : afterWidening ty x v' = Sem.pure v') (hq : ∀ d' acts', Q (some v') d' acts' s) : wp ((Native.java_lang_reflect_Array.elements.getX name letter rule x).sem #[.ref a, .int i]) Q E e d acts s := by
  obtain ⟨h9, rfl⟩ := Array.getElem?_eq_some_iff.mp hv
  have h2 : ¬ cell.slots.size ≤ i.toNatClampNeg := by omega
  rw [zg_get]
  simp [Native.java_lang_reflect_Array.elements.checkArray, Native.java_lang_reflect_Array.elements.checkIndex, Native.java_lang_reflect_Array.elements.mismatch, hcell, hobj, hk, hkind, hkn, hr, h0, h1, h2, hw, ha, hq]
theorem zw_getRef (hcell : s.heap[a]? = some cell) (hobj : ∀ k, cell.vm ≠ .statics k) (hk : s.vm.classes[cell.cls]? = some k) (hkind : k.kind = .array comp ty) (hr : Native.java_lang_reflect_Array.elements.isReference ty = true) (hq : ∀ acts', E (.throwNew "java/lang/IllegalArgumentException" (some "Argument is not an array of primitive type")) acts' s) : wp ((Native.java_lang_reflect_Array.elements.getX name letter rule x).sem #[.ref a, .int i]) Q E e d acts s := by
  rw [zg_get]
  simp [Native.java_lang_reflect_Array.elements.checkArray, Native.java_lang_reflect_Array.elements.checkIndex, Native.java_lang_reflect_Array.elements.mismatch, hcell, hobj, hk, hkind, hr, hq]
theorem zw_getOut (hcell : s.heap[a]? = some cell) (hobj : ∀ k, cell.vm ≠ .statics k) (hk : s.vm.classes[cell.cls]? = some k) (hkind : k.kind = .array comp ty) (hr : Native.java_lang_reflect_Array.elements.isReference ty = false) (h0 : i < 0 ∨ cell.slots.size ≤ i.toNatClampNeg) (hq : ∀ acts', E (.throwNew "java/lang/ArrayIndexOutOfBoundsException" none) acts' s) : wp ((Native.java_lang_reflect_Array.elements.getX name letter rule x).sem #[.ref a, .int i]) Q E e d acts s := by
  rw [zg_get]
  rcases h0 with h0 | h0
  · simp [Native.java_lang_reflect_Array.elements.checkArray, Native.java_lang_reflect_Array.elements.checkIndex, Native.java_lang_reflect_Array.elements.mismatch, hcell, hobj, hk, hkind, hr, h0, hq]
  · have h3 : ¬ i.toNatClampNeg < cell.slots.size := by omega
    simp [Native.java_lang_reflect_Array.elements.checkArray, Native.java_lang_reflect_Array.elements.checkIndex, Native.java_lang_reflect_Array.elements.mismatch, hcell, hobj, hk, hkind, hr, h0, h3, hq]
theorem zw_getMis (hcell : s.heap[a]? = some cell) (hobj : ∀ k, cell.vm ≠ .statics k) (hk : s.vm.classes[cell.cls]? = some k) (hkind : k.kind = .array comp ty) (hkn : cell.vm ≠ .unknown) (hr : Native.java_lang_reflect_Array.elements.isReference ty = false) (h0 : ¬ i < 0) (h1 : i.toNatClampNeg < cell.slots.size) (hv : cell.slots[i.toNatClampNeg]? = some v) (hw : Native.java_lang_reflect_Array.elements.widen ty x v = none) (hq : ∀ acts', E (.throwNew "java/lang/IllegalArgumentException" (some "argument type mismatch")) acts' s) : wp ((Native.java_lang_reflect_Array.elements.getX name letter rule x).sem #[.ref a, .int i]) Q E e d acts s := by
  obtain ⟨h9, rfl⟩ := Array.getElem?_eq_some_iff.mp hv
  have h2 : ¬ cell.slots.size ≤ i.toNatClampNeg := by omega
  rw [zg_get]
  simp [Native.java_lang_reflect_Array.elements.checkArray, Native.java_lang_reflect_Array.elements.checkIndex, Native.java_lang_reflect_Array.elements.mismatch, hcell, hobj, hk, hkind, hkn, hr, h0, h1, h2, hw, hq]
theorem zw_setOk (hcell : s.heap[a]? = some cell) (hobj : ∀ k, cell.vm ≠ .statics k) (hk : s.vm.classes[cell.cls]? = some k) (hkind : k.kind = .array comp ty) (hkn : cell.vm ≠ .unknown) (hr : Native.java_lang_reflect_Array.elements.isReference ty = false) (h0 : ¬ i < 0) (h1 : i.toNatClampNeg < cell.slots.size) (hw : Native.java_lang_reflect_Array.elements.widen x ty v = some v') (ha : afterWidening x ty v' = Sem.pure v') (hf : s.fitsSlot cell.cls cell.vm i.toNatClampNeg (narrow ty v') = true) (hq : ∀ d' acts', Q none d' acts' (s.setCell a (cell.setSlot i.toNatClampNeg (narrow ty v')))) : wp ((Native.java_lang_reflect_Array.elements.setX name letter rule x).sem #[.ref a, .int i, v]) Q E e d acts s := by
  have h2 : ¬ cell.slots.size ≤ i.toNatClampNeg := by omega
  rw [zg_set]
  simp [Native.java_lang_reflect_Array.elements.checkArray, Native.java_lang_reflect_Array.elements.checkIndex, Native.java_lang_reflect_Array.elements.mismatch, hcell, hobj, hk, hkind, hkn, hr, h0, h1, h2, hw, ha, hf, hq]
theorem zw_setRef (hcell : s.heap[a]? = some cell) (hobj : ∀ k, cell.vm ≠ .statics k) (hk : s.vm.classes[cell.cls]? = some k) (hkind : k.kind = .array comp ty) (hr : Native.java_lang_reflect_Array.elements.isReference ty = true) (hq : ∀ acts', E (.throwNew "java/lang/IllegalArgumentException" (some "Argument is not an array of primitive type")) acts' s) : wp ((Native.java_lang_reflect_Array.elements.setX name letter rule x).sem #[.ref a, .int i, v]) Q E e d acts s := by
  rw [zg_set]
  simp [Native.java_lang_reflect_Array.elements.checkArray, Native.java_lang_reflect_Array.elements.checkIndex, Native.java_lang_reflect_Array.elements.mismatch, hcell, hobj, hk, hkind, hr, hq]
theorem zw_setOut (hcell : s.heap[a]? = some cell) (hobj : ∀ k, cell.vm ≠ .statics k) (hk : s.vm.classes[cell.cls]? = some k) (hkind : k.kind = .array comp ty) (hr : Native.java_lang_reflect_Array.elements.isReference ty = false) (h0 : i < 0 ∨ cell.slots.size ≤ i.toNatClampNeg) (hq : ∀ acts', E (.throwNew "java/lang/ArrayIndexOutOfBoundsException" none) acts' s) : wp ((Native.java_lang_reflect_Array.elements.setX name letter rule x).sem #[.ref a, .int i, v]) Q E e d acts s := by
  rw [zg_set]
  rcases h0 with h0 | h0
  · simp [Native.java_lang_reflect_Array.elements.checkArray, Native.java_lang_reflect_Array.elements.checkIndex, Native.java_lang_reflect_Array.elements.mismatch, hcell, hobj, hk, hkind, hr, h0, hq]
  · have h3 : ¬ i.toNatClampNeg < cell.slots.size := by omega
    simp [Native.java_lang_reflect_Array.elements.checkArray, Native.java_lang_reflect_Array.elements.checkIndex, Native.java_lang_reflect_Array.elements.mismatch, hcell, hobj, hk, hkind, hr, h0, h3, hq]
theorem zw_setMis (hcell : s.heap[a]? = some cell) (hobj : ∀ k, cell.vm ≠ .statics k) (hk : s.vm.classes[cell.cls]? = some k) (hkind : k.kind = .array comp ty)  (hr : Native.java_lang_reflect_Array.elements.isReference ty = false) (h0 : ¬ i < 0) (h1 : i.toNatClampNeg < cell.slots.size) (hw : Native.java_lang_reflect_Array.elements.widen x ty v = none) (hq : ∀ acts', E (.throwNew "java/lang/IllegalArgumentException" (some "argument type mismatch")) acts' s) : wp ((Native.java_lang_reflect_Array.elements.setX name letter rule x).sem #[.ref a, .int i, v]) Q E e d acts s := by
  have h2 : ¬ cell.slots.size ≤ i.toNatClampNeg := by omega
  rw [zg_set]
  simp [Native.java_lang_reflect_Array.elements.checkArray, Native.java_lang_reflect_Array.elements.checkIndex, Native.java_lang_reflect_Array.elements.mismatch, hcell, hobj, hk, hkind, hr, h0, h1, h2, hw, hq]
theorem zw_stNull (hcell : s.heap[a]? = some cell) (hobj : ∀ k, cell.vm ≠ .statics k) (hk : s.vm.classes[cell.cls]? = some k) (hkind : k.kind = .array comp ty) (hkn : cell.vm ≠ .unknown) (hr : Native.java_lang_reflect_Array.elements.isReference ty = true) (h0 : ¬ i < 0) (h1 : i.toNatClampNeg < cell.slots.size) (hf : s.fitsSlot cell.cls cell.vm i.toNatClampNeg .null = true) (hq : ∀ d' acts', Q none d' acts' (s.setCell a (cell.setSlot i.toNatClampNeg .null))) : wp (Native.java_lang_reflect_Array.elements.set.sem #[.ref a, .int i, .null]) Q E e d acts s := by
  have h2 : ¬ cell.slots.size ≤ i.toNatClampNeg := by omega
  obtain ⟨G, hG⟩ := zg_stN a i
  rw [hG]
  simp [Native.java_lang_reflect_Array.elements.checkArray, Native.java_lang_reflect_Array.elements.checkIndex, Native.java_lang_reflect_Array.elements.mismatch, hcell, hobj, hk, hkind, hkn, hr, h0, h1, h2, hf, hq]
theorem zw_stOk {o : Addr} {cy : Cell} {ky kc : Class} (hcell : s.heap[a]? = some cell) (hobj : ∀ k, cell.vm ≠ .statics k) (hk : s.vm.classes[cell.cls]? = some k) (hkind : k.kind = .array comp ty) (hkn : cell.vm ≠ .unknown) (hr : Native.java_lang_reflect_Array.elements.isReference ty = true) (h0 : ¬ i < 0) (h1 : i.toNatClampNeg < cell.slots.size) (q1 : s.heap[o]? = some cy) (q2 : ∀ k, cy.vm ≠ .statics k) (q3 : s.vm.classes[cy.cls]? = some ky) (q4 : s.vm.classes[comp]? = some kc) (q5 : s.vm.assignable cy.cls comp = true) (hf : s.fitsSlot cell.cls cell.vm i.toNatClampNeg (.ref o) = true) (hq : ∀ d' acts', Q none d' acts' (s.setCell a (cell.setSlot i.toNatClampNeg (.ref o)))) : wp (Native.java_lang_reflect_Array.elements.set.sem #[.ref a, .int i, .ref o]) Q E e d acts s := by
  have h2 : ¬ cell.slots.size ≤ i.toNatClampNeg := by omega
  obtain ⟨G, hG⟩ := zg_stR a o i
  rw [hG]
  simp [Native.java_lang_reflect_Array.elements.checkArray, Native.java_lang_reflect_Array.elements.checkIndex, Native.java_lang_reflect_Array.elements.mismatch, hcell, hobj, hk, hkind, hkn, hr, h0, h1, h2, hf, hq, q1, q2, q3, q4, q5]
theorem zw_stOutN (hcell : s.heap[a]? = some cell) (hobj : ∀ k, cell.vm ≠ .statics k) (hk : s.vm.classes[cell.cls]? = some k) (hkind : k.kind = .array comp ty) (hr : Native.java_lang_reflect_Array.elements.isReference ty = true) (h0 : i < 0 ∨ cell.slots.size ≤ i.toNatClampNeg) (hq : ∀ acts', E (.throwNew "java/lang/ArrayIndexOutOfBoundsException" none) acts' s) : wp (Native.java_lang_reflect_Array.elements.set.sem #[.ref a, .int i, .null]) Q E e d acts s := by
  obtain ⟨G, hG⟩ := zg_stN a i
  rw [hG]
  rcases h0 with h0 | h0
  · simp [Native.java_lang_reflect_Array.elements.checkArray, Native.java_lang_reflect_Array.elements.checkIndex, Native.java_lang_reflect_Array.elements.mismatch, hcell, hobj, hk, hkind, hr, h0, hq]
  · have h3 : ¬ i.toNatClampNeg < cell.slots.size := by omega
    simp [Native.java_lang_reflect_Array.elements.checkArray, Native.java_lang_reflect_Array.elements.checkIndex, Native.java_lang_reflect_Array.elements.mismatch, hcell, hobj, hk, hkind, hr, h0, h3, hq]
theorem zw_stOut {o : Addr} (hcell : s.heap[a]? = some cell) (hobj : ∀ k, cell.vm ≠ .statics k) (hk : s.vm.classes[cell.cls]? = some k) (hkind : k.kind = .array comp ty) (hr : Native.java_lang_reflect_Array.elements.isReference ty = true) (h0 : i < 0 ∨ cell.slots.size ≤ i.toNatClampNeg) (hq : ∀ acts', E (.throwNew "java/lang/ArrayIndexOutOfBoundsException" none) acts' s) : wp (Native.java_lang_reflect_Array.elements.set.sem #[.ref a, .int i, .ref o]) Q E e d acts s := by
  obtain ⟨G, hG⟩ := zg_stR a o i
  rw [hG]
  rcases h0 with h0 | h0
  · simp [Native.java_lang_reflect_Array.elements.checkArray, Native.java_lang_reflect_Array.elements.checkIndex, Native.java_lang_reflect_Array.elements.mismatch, hcell, hobj, hk, hkind, hr, h0, hq]
  · have h3 : ¬ i.toNatClampNeg < cell.slots.size := by omega
    simp [Native.java_lang_reflect_Array.elements.checkArray, Native.java_lang_reflect_Array.elements.checkIndex, Native.java_lang_reflect_Array.elements.mismatch, hcell, hobj, hk, hkind, hr, h0, h3, hq]
theorem zw_stMis {o : Addr} {cy : Cell} {ky kc : Class} (hcell : s.heap[a]? = some cell) (hobj : ∀ k, cell.vm ≠ .statics k) (hk : s.vm.classes[cell.cls]? = some k) (hkind : k.kind = .array comp ty) (hr : Native.java_lang_reflect_Array.elements.isReference ty = true) (h0 : ¬ i < 0) (h1 : i.toNatClampNeg < cell.slots.size) (q1 : s.heap[o]? = some cy) (q2 : ∀ k, cy.vm ≠ .statics k) (q3 : s.vm.classes[cy.cls]? = some ky) (q4 : s.vm.classes[comp]? = some kc) (q5 : s.vm.assignable cy.cls comp = false) (hq : ∀ acts', E (.throwNew "java/lang/IllegalArgumentException" (some "array element type mismatch")) acts' s) : wp (Native.java_lang_reflect_Array.elements.set.sem #[.ref a, .int i, .ref o]) Q E e d acts s := by
  have h2 : ¬ cell.slots.size ≤ i.toNatClampNeg := by omega
  obtain ⟨G, hG⟩ := zg_stR a o i
  rw [hG]
  simp [Native.java_lang_reflect_Array.elements.checkArray, Native.java_lang_reflect_Array.elements.checkIndex, Native.java_lang_reflect_Array.elements.mismatch, hcell, hobj, hk, hkind, hr, h0, h1, h2, hq, q1, q2, q3, q4, q5]
end ZAW
