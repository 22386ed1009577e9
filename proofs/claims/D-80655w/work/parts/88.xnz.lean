/-! ===== rows of the natives ===== -/
def zvl (x : vp_A) (j : Nat) : Value := match x.2 with
  | .inl f => .int (f j)
  | .inr (.inl f) => .long (f j)
  | .inr (.inr (.inl f)) => .float (f j)
  | .inr (.inr (.inr (.inl f))) => .double (f j)
  | .inr (.inr (.inr (.inr f))) => va_rf (f j)
theorem zvl_cell (cA : ClassId) (x : vp_A) : vp_cell cA x = arrV cA x.1 (zvl x) := by obtain ⟨n, f | f | f | f | f⟩ := x <;> rfl
theorem zvl_known (cA : ClassId) (x : vp_A) : (vp_cell cA x).vm = .none := by rw [zvl_cell]; rfl
def zNg (y : MethodName) (name letter rule : String) (x : FieldType) : Prop := y.cls = "java/lang/reflect/Array" ∧ parseMethodDescriptor y.desc = some { parameters := [.object "java/lang/Object", .int], returnType := some x } ∧ (∀ p : Program, NativeRow.find? p.tables.natives y.cls y.name y.desc = some (Native.java_lang_reflect_Array.elements.getX name letter rule x)) ∧ nativeFrameWords y.cls y.name 2 ≤ 6
def zNs (y : MethodName) (name letter rule : String) (x : FieldType) (w : Nat) : Prop := y.cls = "java/lang/reflect/Array" ∧ parseMethodDescriptor y.desc = some { parameters := [.object "java/lang/Object", .int, x], returnType := none } ∧ (∀ p : Program, NativeRow.find? p.tables.natives y.cls y.name y.desc = some (Native.java_lang_reflect_Array.elements.setX name letter rule x)) ∧ nativeFrameWords y.cls y.name (2 + w) ≤ 6
def zNc1 (y : MethodName) (own : String) (index : Nat) : Prop := Cond.methodLink own index y ∈ lw_all ∧ Cond.native y ∈ lw_all ∧ Cond.static y ∈ lw_all ∧ Cond.initialized y.cls ∈ lw_all
section ZNN
variable {θ : zTh} {p : Program} {l : Launch} {e : Env} {R : Room} {s : State} {m : MethodId} {args : Array Value} {below : List Frame} {meth : Method} {c : Code} {Q : State → Prop} {M N : zMap} {H : Heap} {locs : List Loc} {n k pc : Nat} {ls : Array Slot} {lv : List (Nat × Value)} {rest : List Value}
theorem zo_zS {cls text : String} {names : List String} {nb : Nat} (hx : p.tables.exec = Jvm.exec) (hts : ∀ w ∈ lw_all, w.before args s = true) (hU : zU θ s) (hlk : meth.locks = false) (hT : zTb θ) (hZ : zTx θ l) (hcls : Bundle.fit cls = true) (hnames : ∀ n ∈ names, Bundle.fit n = true) (hsoe : (cls == "java/lang/StackOverflowError") = false) (hoom : (cls == "java/lang/OutOfMemoryError") = false)
    (ha : ∀ w ∈ vx_atM cls names, xAt w) (hP : zP θ M N H) (hS : va_S (zA θ) s.heap H locs) (hl : lv_has ls c.maxLocals lv) (htext : (text == notModelled) = false) (hnb : (stringBytes (stringToUtf16 text)).size ≤ nb) (hnb1 : nb ≤ 1000) (hf : names.length + 5 < R.frames) (hlo : 10250 ≤ R.locals) (hsz : (rest.map fun v => v.category).sum ≤ 10) (hshort : 13 * names.length + 55 ≤ 10240) (hce : n + 3 ≤ R.cells) (hsl : k + (nb + 10) ≤ R.slots)
    (kx : ∀ b : Nat, zX (θ, p, l, e, R, s, m, args, below, meth, c, Q) (zP θ M N) (n + 3) (k + (nb + 10)) pc lv b cls) : zo_Note p l e R s m args below meth c H locs n k Q (F0 m pc ls rest) cls (some text) :=
  zo_vmS hx hZ.1 hcls hnames hsoe hoom (fun w hw => (xat_use hT hU hts (ha w hw)).1) (fun w hw => (xat_use (args := args) hT hU hts (ha w hw)).2) (hZ.U hU) (hZ.N hU) hS hl.1 htext hnb hnb1 hf (by omega) hshort hce hsl hlk
    (fun H1 q9 ce h1 h2 h3 h4 h5 h6 => kx q9 H1 locs ls ce rest (hP.grow h2) h3 hl h4 h5 h6)
theorem zo_z0 {cls : String} {names : List String} (hx : p.tables.exec = Jvm.exec) (hts : ∀ w ∈ lw_all, w.before args s = true) (hU : zU θ s) (hlk : meth.locks = false) (hT : zTb θ) (hZ : zTx θ l) (hcls : Bundle.fit cls = true) (hnames : ∀ n ∈ names, Bundle.fit n = true) (hsoe : (cls == "java/lang/StackOverflowError") = false) (hoom : (cls == "java/lang/OutOfMemoryError") = false)
    (ha : ∀ w ∈ (zo_wd cls names).filter vx_no, xAt w) (hin : Cond.initialized cls ∈ lw_all) (hP : zP θ M N H) (hS : va_S (zA θ) s.heap H locs) (hl : lv_has ls c.maxLocals lv) (hf : names.length + 5 < R.frames) (hlo : 10250 ≤ R.locals) (hsz : (rest.map fun v => v.category).sum ≤ 10) (hshort : 13 * names.length + 55 ≤ 10240) (hce : n + 1 ≤ R.cells) (hsl : k + 6 ≤ R.slots)
    (kx : ∀ b : Nat, zX (θ, p, l, e, R, s, m, args, below, meth, c, Q) (zP θ M N) (n + 1) (k + 6) pc lv b cls) : zo_Note p l e R s m args below meth c H locs n k Q (F0 m pc ls rest) cls none :=
  zo_vm0 hx hZ.1 hcls hnames hsoe hoom (fun w hw => (xat_use hT hU hts (ha w hw)).1) (fun w hw => (xat_use (args := args) hT hU hts (ha w hw)).2) (hZ.U hU) (hZ.N hU) hS hl.1 (hts _ hin) hf (by omega) hshort hce hsl hlk
    (fun H1 q9 ce h1 h2 h3 h4 h5 h6 => kx q9 H1 locs ls ce rest (hP.grow h2) h3 hl h4 h5 h6)
end ZNN

theorem zcat3 (a b v : Value) : operandWords [a, b, v] = a.category + b.category + v.category := by
  simp only [operandWords, List.foldl_cons, List.foldl_nil]
  omega
theorem zo_200 : (stringBytes (stringToUtf16 "Argument is not an array of primitive type")).size ≤ 200 := by
  have b1 := stringBytes_size_le (stringToUtf16 "Argument is not an array of primitive type")
  have b2 := utf16_size_le "Argument is not an array of primitive type"
  have b3 : ("Argument is not an array of primitive type" : String).toList.length = 42 := by decide
  omega
theorem zo_110 : (stringBytes (stringToUtf16 "argument type mismatch")).size ≤ 110 := by
  have b1 := stringBytes_size_le (stringToUtf16 "argument type mismatch")
  have b2 := utf16_size_le "argument type mismatch"
  have b3 : ("argument type mismatch" : String).toList.length = 22 := by decide
  omega
theorem zo_130 : (stringBytes (stringToUtf16 "array element type mismatch")).size ≤ 130 := by
  have b1 := stringBytes_size_le (stringToUtf16 "array element type mismatch")
  have b2 := utf16_size_le "array element type mismatch"
  have b3 : ("array element type mismatch" : String).toList.length = 27 := by decide
  omega
theorem xat_A0 : ∀ w ∈ (zo_wd "java/lang/ArrayIndexOutOfBoundsException" ["java/lang/IndexOutOfBoundsException", "java/lang/RuntimeException", "java/lang/Exception"]).filter vx_no, xAt w := by
  intro w hw
  obtain ⟨h1, h2⟩ := List.mem_filter.mp hw
  simp only [zo_wd, Bundle.npeArmAtoms, Bundle.messageArmAtoms, Bundle.ownAtoms0, Bundle.throwableAtoms, Bundle.throwableSAtoms, Bundle.chainSAtoms, Bundle.chain0Atoms, Bundle.stringAtoms, Bundle.npeAtoms, Bundle.passAtoms, Bundle.passSAtoms, List.mem_append, List.mem_cons, List.not_mem_nil, or_false] at h1
  repeat' (refine Or.elim h1 (fun h1 => ?_) (fun h1 => ?_))
  all_goals subst h1
  all_goals first
    | exact Or.inr (Or.inl ⟨_, _, rfl, q2621⟩)
    | exact Or.inl q125
    | exact Or.inl q1421
    | exact Or.inl q1422
    | exact Or.inl q1423
    | exact Or.inr (Or.inr ⟨_, rfl, q1432⟩)
    | exact Or.inr (Or.inr ⟨_, rfl, q1433⟩)
    | exact Or.inl q1438
    | exact Or.inl q1439
    | exact Or.inl q1440
    | exact Or.inl q126
    | exact Or.inl q1323
    | exact Or.inl q1417
    | exact Or.inl q1418
    | exact Or.inl q1419
    | exact Or.inl q1420
    | exact Or.inl q1424
    | exact Or.inl q1425
    | exact Or.inl q1426
    | exact Or.inl q1427
    | exact Or.inl q1428
    | exact Or.inl q1429
    | exact Or.inl q1430
    | exact Or.inr (Or.inl ⟨_, _, rfl, q1431⟩)
    | exact Or.inl q1434
    | exact Or.inl q1435
    | exact Or.inl q1436
    | exact Or.inl q1437
    | exact Or.inr (Or.inl ⟨_, _, rfl, q2587⟩)
    | exact Or.inr (Or.inl ⟨_, _, rfl, q2613⟩)
    | exact Or.inl q1324
    | exact Or.inl q1445
    | exact Or.inl q1446
    | exact Or.inl q1447
    | exact Or.inl q1448
    | exact Or.inl q1449
    | exact Or.inl q1450
    | exact Or.inl q1451
    | exact Or.inl q1452
    | exact Or.inl q1454
    | exact Or.inl q1686
    | exact Or.inr (Or.inl ⟨_, _, rfl, q2614⟩)
    | exact Or.inl q1327
    | exact Or.inl q1459
    | exact Or.inl q1460
    | exact Or.inl q1461
    | exact Or.inl q1462
    | exact Or.inl q1463
    | exact Or.inl q1464
    | exact Or.inl q1465
    | exact Or.inl q1466
    | exact Or.inl q1468
    | exact Or.inr (Or.inl ⟨_, _, rfl, q2615⟩)
    | exact Or.inl q1325
    | exact Or.inl q1473
    | exact Or.inl q1474
    | exact Or.inl q1475
    | exact Or.inl q1476
    | exact Or.inl q1477
    | exact Or.inl q1478
    | exact Or.inl q1479
    | exact Or.inl q1480
    | exact Or.inl q1482
    | exact Or.inr (Or.inl ⟨_, _, rfl, q2616⟩)
    | exact Or.inr (Or.inl ⟨_, _, rfl, q2628⟩)
    | exact Or.inr (Or.inl ⟨_, _, rfl, q2629⟩)
    | exact Or.inl q145
    | exact Or.inl q146
    | exact Or.inr (Or.inl ⟨_, _, rfl, q2622⟩)
    | exact Or.inr (Or.inl ⟨_, _, rfl, q2623⟩)
    | exact Or.inr (Or.inl ⟨_, _, rfl, q2624⟩)
    | exact Or.inr (Or.inl ⟨_, _, rfl, q2625⟩)
    | exact Or.inr (Or.inl ⟨_, _, rfl, q2626⟩)
    | exact Or.inr (Or.inl ⟨_, _, rfl, q2627⟩)
    | exact Or.inl q120
    | exact Or.inl q1312
    | exact Or.inl q1313
    | exact Or.inl q1314
    | exact Or.inl q1315
    | exact Or.inl q1317
    | exact Or.inl q1319
    | exact Or.inl q1320
    | exact Or.inl q1321
    | exact Or.inr (Or.inr ⟨_, rfl, q1337⟩)
    | exact Or.inl q1341
    | exact Or.inl q1342
    | exact Or.inl q1344
    | exact Or.inl q1345
    | exact Or.inl q1346
    | exact Or.inl q1383
    | exact Or.inl q1350
    | exact Or.inl q1351
    | exact Or.inl q1352
    | exact Or.inl q1353
    | exact Or.inl q1359
    | exact Or.inl q1361
    | exact Or.inl q1363
    | exact Or.inl q1365
    | exact Or.inl q1367
    | exact Or.inl q1369
    | exact Or.inr (Or.inr ⟨_, rfl, q1375⟩)
    | exact Or.inr (Or.inr ⟨_, rfl, q1376⟩)
    | exact Or.inl q1378
    | exact Or.inl q1379
    | exact Or.inl q1380
    | exact Or.inl q1381
    | exact Or.inl q1382
    | exact Or.inl q1384
    | exact Or.inl q1397
    | exact Or.inl q1398
    | exact Or.inl q1510
    | exact Or.inl q1511
    | exact Or.inl q2584
    | exact Or.inr (Or.inl ⟨_, _, rfl, q2620⟩)
    | exact Or.inl q121
    | exact Or.inl q1309
    | exact Or.inl q1310
    | exact Or.inl q1311
    | exact Or.inl q1340
    | exact Or.inr (Or.inr ⟨_, rfl, q1373⟩)
    | exact Or.inr (Or.inr ⟨_, rfl, q1374⟩)
    | exact Or.inl q1394
    | exact Or.inl q1395
    | exact Or.inl q1396
    | exact Or.inl q1507
    | exact Or.inl q1508
    | exact Or.inl q1509
    | exact Or.inl q122
    | exact Or.inl q1306
    | exact Or.inl q1307
    | exact Or.inl q1308
    | exact Or.inl q1336
    | exact Or.inl q1339
    | exact Or.inr (Or.inr ⟨_, rfl, q1371⟩)
    | exact Or.inr (Or.inr ⟨_, rfl, q1372⟩)
    | exact Or.inr (Or.inl ⟨_, _, rfl, q1385⟩)
    | exact Or.inl q1391
    | exact Or.inl q1392
    | exact Or.inl q1393
    | exact Or.inl q1305
    | exact Or.inl q1328
    | exact Or.inl q1335
    | exact Or.inl q1338
    | exact Or.inl q1358
    | exact Or.inl q1360
    | exact Or.inl q1362
    | exact Or.inl q1364
    | exact Or.inl q1366
    | exact Or.inl q1368
    | exact Or.inl q1377
    | exact Or.inr (Or.inl ⟨_, _, rfl, q2611⟩)
    | exact Or.inl q1326
    | exact Or.inl q1390
    | exact Or.inl q1399
    | exact Or.inl q1400
    | exact Or.inl q1401
    | exact Or.inl q1402
    | exact Or.inl q1403
    | exact Or.inl q1404
    | exact Or.inl q1405
    | exact Or.inl q1407
    | exact Or.inl q1415
    | exact Or.inr (Or.inl ⟨_, _, rfl, q2612⟩)
    | exact Or.inl q144
    | exact Or.inl q369
    | exact Or.inl q1416
    | exact Or.inr (Or.inl ⟨_, _, rfl, q2590⟩)
    | exact Or.inl q160
    | exact Or.inl q164
    | exact Or.inr (Or.inl ⟨_, _, rfl, q2591⟩)
    | exact Or.inl q770
    | exact Or.inr (Or.inl ⟨_, _, rfl, q2599⟩)
    | exact Or.inr (Or.inl ⟨_, _, rfl, q2600⟩)
    | exact Or.inr (Or.inl ⟨_, _, rfl, q2601⟩)
    | exact Or.inr (Or.inl ⟨_, _, rfl, q2602⟩)
    | exact Or.inr (Or.inl ⟨_, _, rfl, q2603⟩)
    | exact Or.inr (Or.inl ⟨_, _, rfl, q2604⟩)
    | exact Or.inr (Or.inl ⟨_, _, rfl, q2605⟩)
    | exact Or.inr (Or.inl ⟨_, _, rfl, q2606⟩)
    | exact Or.inl q916
    | exact Or.inl q173
    | exact Or.inl q474
    | exact Or.inr (Or.inl ⟨_, _, rfl, q2607⟩)
    | exact Or.inr (Or.inl ⟨_, _, rfl, q2608⟩)
    | exact Or.inr (Or.inl ⟨_, _, rfl, q2609⟩)
    | exact Or.inl q1265
    | exact Or.inl q1266
    | exact Or.inr (Or.inl ⟨_, _, rfl, q2610⟩)
    | exact Or.inl q1322
    | exact Or.inl q1497
    | exact Or.inl q1498
    | exact Or.inl q1499
    | exact Or.inl q1500
    | exact Or.inl q1501
    | exact Or.inl q1502
    | exact Or.inl q1506
    | exact Or.inl q1516
    | exact Or.inl q1517
    | exact Or.inr (Or.inl ⟨_, _, rfl, q2617⟩)
    | exact Or.inl q1737
    | exact Or.inl q1763
    | exact Or.inr (Or.inl ⟨_, _, rfl, q2618⟩)
    | exact Or.inr (Or.inl ⟨_, _, rfl, q2619⟩)
    | exact Or.inr (Or.inl ⟨_, _, rfl, q2592⟩)
    | exact Or.inr (Or.inl ⟨_, _, rfl, q2596⟩)
    | exact Or.inr (Or.inl ⟨_, _, rfl, q2593⟩)
    | exact Or.inl q245
    | exact Or.inl q261
    | exact Or.inr (Or.inl ⟨_, _, rfl, q2594⟩)
    | exact Or.inl q1974
    | exact Or.inl q2151
    | exact Or.inr (Or.inl ⟨_, _, rfl, q2595⟩)
    | exact Or.inr (Or.inl ⟨_, _, rfl, q2597⟩)
    | exact Or.inl q651
    | exact Or.inl q710
    | exact Or.inr (Or.inl ⟨_, _, rfl, q2598⟩)
    | exact Or.inr (Or.inl ⟨_, _, rfl, q2639⟩)
    | exact Or.inr (Or.inl ⟨_, _, rfl, q2642⟩)
    | exact Or.inr (Or.inl ⟨_, _, rfl, q2647⟩)
    | exact Or.inr (Or.inl ⟨_, _, rfl, q2646⟩)
    | exact Or.inr (Or.inl ⟨_, _, rfl, q2644⟩)
    | exact Or.inr (Or.inl ⟨_, _, rfl, q2645⟩)
    | exact Or.inr (Or.inl ⟨_, _, rfl, q2637⟩)
    | exact Or.inr (Or.inl ⟨_, _, rfl, q2641⟩)
    | exact Or.inr (Or.inl ⟨_, _, rfl, q2635⟩)
    | exact Or.inr (Or.inl ⟨_, _, rfl, q2640⟩)
    | exact Or.inr (Or.inl ⟨_, _, rfl, q2636⟩)
    | exact Or.inr (Or.inl ⟨_, _, rfl, q2634⟩)
    | exact Or.inr (Or.inl ⟨_, _, rfl, q2648⟩)
    | exact Or.inr (Or.inl ⟨_, _, rfl, q2643⟩)
    | exact Or.inr (Or.inl ⟨_, _, rfl, q2638⟩)
    | exact Or.inl q1637
    | exact Or.inl q216
    | exact Or.inl q636
    | exact Or.inl q739
    | exact Or.inl q740
    | exact Or.inl q741
    | exact Or.inl q742
    | exact Or.inl q743
    | exact Or.inl q744
    | exact Or.inl qs17
    | exact absurd h2 (by decide)
section ZNR
variable {κ : zK} {own nm : String} {cc : ByteArray} {nL : Nat} {ret : Option FieldType} {rm : Room} {P : Option Value → (Heap → Prop) → Prop} {n k pc index t0 : Nat} {lv : List (Nat × Value)} {st rest : List Value}
variable {θ : zTh} {l : Launch} {M N : zMap} {a : Nat} {x : vp_A} {cA : ClassId} {ty X : FieldType} {y : MethodName} {name letter rule : String} {i : Int} {v v' : Value}
theorem zn_getOk (C : ZC κ own nm cc nL ret rm P) (hκ : κ.1 = θ) (hκl : κ.2.2.1 = l) (q : Nat) (hM : M a = some (.inl (cA, x))) (ht : (zTys θ)[t0]? = some (cA, ty)) (hr : Native.java_lang_reflect_Array.elements.isReference ty = false) (h0 : 0 ≤ i) (h1 : i < (x.1 : Int)) (h2 : x.1 ≤ 2147483647) (hw : Native.java_lang_reflect_Array.elements.widen ty X (zvl x i.toNat) = some v') (ha : afterWidening ty X v' = Sem.pure v') (hy : zNg y name letter rule X) (hw0 : zNc1 y own index) (d : decode cc pc = .ok (.invokestatic index, 3)) (hf : 1 ≤ rm.frames) (hlo : 40 ≤ rm.locals) (hsz : (rest.map fun v => v.category).sum ≤ 8) (hq : pc + 3 = q) (kk : Z κ (zP θ M N) n k q lv (v' :: rest)) : Z κ (zP θ M N) n k pc lv (.int (iI i) :: .ref a :: rest) := by
  subst hq
  subst hκ; subst hκl
  obtain ⟨θ, p, l, e, R, s, m, args, below, meth, c, Q⟩ := κ
  obtain ⟨hx, hb, hml, hown, hts, hU, hlk, hret, hnm, rfl, hQ⟩ := C
  have hK := hU.2.2.2
  obtain ⟨y1, y2, y3, y4⟩ := hy
  obtain ⟨w1, w2, w3, w4⟩ := hw0
  intro H locs ls hP hS hl
  refine zn_W hx (ps := [.object "java/lang/Object", .int]) (argsL := [.ref a, .int (iI i)]) (rest := rest) hb hl.1 hown (hts _ w1) (hts _ w2) (hts _ w3) (hts _ w4) y2 ⟨by rw [y1]; decide, by rw [y1]; decide⟩ rfl d (by omega) (by show (rest.map fun v => v.category).sum + (nativeFrameWords y.cls y.name 2 + 11) ≤ _; omega) (fun T hT9 X9 m9 k9 meth9 N9 hroom => ?_)
  have hal := X9.warmed.alike
  have hcell : T.heap[a]? = some (vp_cell cA x) := by rw [hT9]; exact (hP.1 a _ hM).1
  obtain ⟨hobj, kA, hkA, comp, hkind⟩ := arrOfT_moved hal (hK.2 t0 _ ht).1 x.1 (zvl x)
  rw [← zvl_cell] at hobj hkA
  have hkn : (vp_cell cA x).vm ≠ .unknown := by rw [zvl_known]; intro h; cases h
  have hsize : (vp_cell cA x).slots.size = x.1 := by rw [zvl_cell, arrV_size]
  obtain ⟨i1, i2⟩ := zin_of h0 h1 h2
  have i3 : ¬ iI i < 0 := fun h => i1 (Or.inl h)
  have i4 : (iI i).toNatClampNeg < (vp_cell cA x).slots.size := by rw [hsize]; exact Nat.lt_of_not_le (fun h => i1 (Or.inr h))
  have hv0 : (vp_cell cA x).slots[(iI i).toNatClampNeg]? = some (zvl x i.toNat) := by rw [zvl_cell, i2]; exact arrV_read cA (zvl x) (by omega)
  have hseen : seenByNative meth9 #[.ref a, .int (iI i)] = #[.ref a, .int (iI i)] := by simp [seenByNative, N9.static, N9.sig, narrow]
  obtain ⟨t, a1, b1⟩ := kk H locs ls hP hS hl T hT9 X9
  refine ⟨t, fun acts => ?_, b1⟩
  refine Steps.nativeEnds (row := Native.java_lang_reflect_Array.elements.getX name letter rule X) (v := some v') (T := id) (g := F0 m pc ls rest) X9.here acts N9.cls N9.meth N9.boot N9.native N9.noCode N9.noLock (by rw [N9.className, N9.name, N9.desc]; exact y3 p) (by rw [N9.className, N9.name]; exact hroom) (fun _ => rfl) rfl (fun _ => X9.here.code) ?_ (by rw [hb]; exact d) a1
  intro Q9 hq
  rw [hseen] at hq ⊢
  exact zw_getOk hcell hobj hkA hkind hkn hr i3 i4 hv0 hw ha (fun d' acts' => hq d' acts')
theorem zn_getRef (C : ZC κ own nm cc nL ret rm P) (hκ : κ.1 = θ) (hκl : κ.2.2.1 = l) (hT : zTb θ) (hZ : zTx θ l) (hM : M a = some (.inl (cA, x))) (ht : (zTys θ)[t0]? = some (cA, ty)) (hr : Native.java_lang_reflect_Array.elements.isReference ty = true) (hy : zNg y name letter rule X) (hw0 : zNc1 y own index) (d : decode cc pc = .ok (.invokestatic index, 3)) (hf : 9 ≤ rm.frames) (hlo : 10250 ≤ rm.locals) (hsz : (rest.map fun v => v.category).sum ≤ 8) (hce : n + 3 ≤ rm.cells) (hsl : k + 210 ≤ rm.slots) (kx : ∀ b : Nat, zX κ (zP θ M N) (n + 3) (k + 210) pc lv b "java/lang/IllegalArgumentException") : Z κ (zP θ M N) n k pc lv (.int (iI i) :: .ref a :: rest) := by
  subst hκ; subst hκl
  obtain ⟨θ, p, l, e, R, s, m, args, below, meth, c, Q⟩ := κ
  obtain ⟨hx, hb, hml, hown, hts, hU, hlk, hret, hnm, rfl, hQ⟩ := C
  have hK := hU.2.2.2
  obtain ⟨y1, y2, y3, y4⟩ := hy
  obtain ⟨w1, w2, w3, w4⟩ := hw0
  intro H locs ls hP hS hl
  refine zn_W hx (ps := [.object "java/lang/Object", .int]) (argsL := [.ref a, .int (iI i)]) (rest := rest) hb hl.1 hown (hts _ w1) (hts _ w2) (hts _ w3) (hts _ w4) y2 ⟨by rw [y1]; decide, by rw [y1]; decide⟩ rfl d (by omega) (by show (rest.map fun v => v.category).sum + (nativeFrameWords y.cls y.name 2 + 11) ≤ _; omega) (fun T hT9 X9 m9 k9 meth9 N9 hroom => ?_)
  have hal := X9.warmed.alike
  have hcell : T.heap[a]? = some (vp_cell cA x) := by rw [hT9]; exact (hP.1 a _ hM).1
  obtain ⟨hobj, kA, hkA, comp, hkind⟩ := arrOfT_moved hal (hK.2 t0 _ ht).1 x.1 (zvl x)
  rw [← zvl_cell] at hobj hkA
  have hkn : (vp_cell cA x).vm ≠ .unknown := by rw [zvl_known]; intro h; cases h
  have hsize : (vp_cell cA x).slots.size = x.1 := by rw [zvl_cell, arrV_size]
  have hseen : seenByNative meth9 #[.ref a, .int (iI i)] = #[.ref a, .int (iI i)] := by simp [seenByNative, N9.static, N9.sig, narrow]
  obtain ⟨t, a1, b1⟩ := (show zo_Note p l e R s m args below meth c H locs n k Q (F0 m pc ls rest) "java/lang/IllegalArgumentException" (some "Argument is not an array of primitive type") from zo_zS (names := ["java/lang/RuntimeException", "java/lang/Exception"]) (nb := 200) hx hts hU hlk hT hZ (by decide +kernel) (by decide +kernel) (by decide +kernel) (by decide +kernel) xat_I hP hS hl (by decide +kernel) (zo_200) (by decide) (by simp only [List.length_cons, List.length_nil]; omega) hlo (by omega) (by decide) hce hsl kx) T hT9 X9 { method := m9, args := seenByNative meth9 #[.ref a, .int (iI i)], locked := none } rfl rfl rfl
  refine ⟨t, fun acts => ?_, b1⟩
  refine zn_throws (row := Native.java_lang_reflect_Array.elements.getX name letter rule X) (g := F0 m pc ls rest) X9.here acts N9.cls N9.meth N9.boot N9.native N9.noCode N9.noLock (by rw [N9.className, N9.name, N9.desc]; exact y3 p) (by rw [N9.className, N9.name]; exact hroom) (fun E9 hq => ?_) a1
  rw [hseen] at hq ⊢
  exact zw_getRef hcell hobj hkA hkind hr (fun acts' => hq acts')
theorem zn_getOut (C : ZC κ own nm cc nL ret rm P) (hκ : κ.1 = θ) (hκl : κ.2.2.1 = l) (hT : zTb θ) (hZ : zTx θ l) (hM : M a = some (.inl (cA, x))) (ht : (zTys θ)[t0]? = some (cA, ty)) (hr : Native.java_lang_reflect_Array.elements.isReference ty = false) (hi : inR i) (hout : i < 0 ∨ (x.1 : Int) ≤ i) (hy : zNg y name letter rule X) (hw0 : zNc1 y own index) (d : decode cc pc = .ok (.invokestatic index, 3)) (hf : 9 ≤ rm.frames) (hlo : 10250 ≤ rm.locals) (hsz : (rest.map fun v => v.category).sum ≤ 8) (hce : n + 1 ≤ rm.cells) (hsl : k + 6 ≤ rm.slots) (kx : ∀ b : Nat, zX κ (zP θ M N) (n + 1) (k + 6) pc lv b "java/lang/ArrayIndexOutOfBoundsException") : Z κ (zP θ M N) n k pc lv (.int (iI i) :: .ref a :: rest) := by
  subst hκ; subst hκl
  obtain ⟨θ, p, l, e, R, s, m, args, below, meth, c, Q⟩ := κ
  obtain ⟨hx, hb, hml, hown, hts, hU, hlk, hret, hnm, rfl, hQ⟩ := C
  have hK := hU.2.2.2
  obtain ⟨y1, y2, y3, y4⟩ := hy
  obtain ⟨w1, w2, w3, w4⟩ := hw0
  intro H locs ls hP hS hl
  refine zn_W hx (ps := [.object "java/lang/Object", .int]) (argsL := [.ref a, .int (iI i)]) (rest := rest) hb hl.1 hown (hts _ w1) (hts _ w2) (hts _ w3) (hts _ w4) y2 ⟨by rw [y1]; decide, by rw [y1]; decide⟩ rfl d (by omega) (by show (rest.map fun v => v.category).sum + (nativeFrameWords y.cls y.name 2 + 11) ≤ _; omega) (fun T hT9 X9 m9 k9 meth9 N9 hroom => ?_)
  have hal := X9.warmed.alike
  have hcell : T.heap[a]? = some (vp_cell cA x) := by rw [hT9]; exact (hP.1 a _ hM).1
  obtain ⟨hobj, kA, hkA, comp, hkind⟩ := arrOfT_moved hal (hK.2 t0 _ ht).1 x.1 (zvl x)
  rw [← zvl_cell] at hobj hkA
  have hkn : (vp_cell cA x).vm ≠ .unknown := by rw [zvl_known]; intro h; cases h
  have hsize : (vp_cell cA x).slots.size = x.1 := by rw [zvl_cell, arrV_size]
  have hout' : iI i < 0 ∨ (vp_cell cA x).slots.size ≤ (iI i).toNatClampNeg := by rw [hsize]; exact Classical.byContradiction fun hc => by have h8 : vp_in (iI i) x.1 := hc; rw [vp_in_iff, iI_toInt hi] at h8; omega
  have hseen : seenByNative meth9 #[.ref a, .int (iI i)] = #[.ref a, .int (iI i)] := by simp [seenByNative, N9.static, N9.sig, narrow]
  obtain ⟨t, a1, b1⟩ := (show zo_Note p l e R s m args below meth c H locs n k Q (F0 m pc ls rest) "java/lang/ArrayIndexOutOfBoundsException" none from zo_z0 (names := ["java/lang/IndexOutOfBoundsException", "java/lang/RuntimeException", "java/lang/Exception"]) hx hts hU hlk hT hZ (by decide +kernel) (by decide +kernel) (by decide +kernel) (by decide +kernel) xat_A0 q126 hP hS hl (by simp only [List.length_cons, List.length_nil]; omega) hlo (by omega) (by decide) hce hsl kx) T hT9 X9 { method := m9, args := seenByNative meth9 #[.ref a, .int (iI i)], locked := none } rfl rfl rfl
  refine ⟨t, fun acts => ?_, b1⟩
  refine zn_throws (row := Native.java_lang_reflect_Array.elements.getX name letter rule X) (g := F0 m pc ls rest) X9.here acts N9.cls N9.meth N9.boot N9.native N9.noCode N9.noLock (by rw [N9.className, N9.name, N9.desc]; exact y3 p) (by rw [N9.className, N9.name]; exact hroom) (fun E9 hq => ?_) a1
  rw [hseen] at hq ⊢
  exact zw_getOut hcell hobj hkA hkind hr hout' (fun acts' => hq acts')
theorem zn_getMis (C : ZC κ own nm cc nL ret rm P) (hκ : κ.1 = θ) (hκl : κ.2.2.1 = l) (hT : zTb θ) (hZ : zTx θ l) (hM : M a = some (.inl (cA, x))) (ht : (zTys θ)[t0]? = some (cA, ty)) (hr : Native.java_lang_reflect_Array.elements.isReference ty = false) (h0 : 0 ≤ i) (h1 : i < (x.1 : Int)) (h2 : x.1 ≤ 2147483647) (hw : Native.java_lang_reflect_Array.elements.widen ty X (zvl x i.toNat) = none) (hy : zNg y name letter rule X) (hw0 : zNc1 y own index) (d : decode cc pc = .ok (.invokestatic index, 3)) (hf : 9 ≤ rm.frames) (hlo : 10250 ≤ rm.locals) (hsz : (rest.map fun v => v.category).sum ≤ 8) (hce : n + 3 ≤ rm.cells) (hsl : k + 120 ≤ rm.slots) (kx : ∀ b : Nat, zX κ (zP θ M N) (n + 3) (k + 120) pc lv b "java/lang/IllegalArgumentException") : Z κ (zP θ M N) n k pc lv (.int (iI i) :: .ref a :: rest) := by
  subst hκ; subst hκl
  obtain ⟨θ, p, l, e, R, s, m, args, below, meth, c, Q⟩ := κ
  obtain ⟨hx, hb, hml, hown, hts, hU, hlk, hret, hnm, rfl, hQ⟩ := C
  have hK := hU.2.2.2
  obtain ⟨y1, y2, y3, y4⟩ := hy
  obtain ⟨w1, w2, w3, w4⟩ := hw0
  intro H locs ls hP hS hl
  refine zn_W hx (ps := [.object "java/lang/Object", .int]) (argsL := [.ref a, .int (iI i)]) (rest := rest) hb hl.1 hown (hts _ w1) (hts _ w2) (hts _ w3) (hts _ w4) y2 ⟨by rw [y1]; decide, by rw [y1]; decide⟩ rfl d (by omega) (by show (rest.map fun v => v.category).sum + (nativeFrameWords y.cls y.name 2 + 11) ≤ _; omega) (fun T hT9 X9 m9 k9 meth9 N9 hroom => ?_)
  have hal := X9.warmed.alike
  have hcell : T.heap[a]? = some (vp_cell cA x) := by rw [hT9]; exact (hP.1 a _ hM).1
  obtain ⟨hobj, kA, hkA, comp, hkind⟩ := arrOfT_moved hal (hK.2 t0 _ ht).1 x.1 (zvl x)
  rw [← zvl_cell] at hobj hkA
  have hkn : (vp_cell cA x).vm ≠ .unknown := by rw [zvl_known]; intro h; cases h
  have hsize : (vp_cell cA x).slots.size = x.1 := by rw [zvl_cell, arrV_size]
  obtain ⟨i1, i2⟩ := zin_of h0 h1 h2
  have i3 : ¬ iI i < 0 := fun h => i1 (Or.inl h)
  have i4 : (iI i).toNatClampNeg < (vp_cell cA x).slots.size := by rw [hsize]; exact Nat.lt_of_not_le (fun h => i1 (Or.inr h))
  have hv0 : (vp_cell cA x).slots[(iI i).toNatClampNeg]? = some (zvl x i.toNat) := by rw [zvl_cell, i2]; exact arrV_read cA (zvl x) (by omega)
  have hseen : seenByNative meth9 #[.ref a, .int (iI i)] = #[.ref a, .int (iI i)] := by simp [seenByNative, N9.static, N9.sig, narrow]
  obtain ⟨t, a1, b1⟩ := (show zo_Note p l e R s m args below meth c H locs n k Q (F0 m pc ls rest) "java/lang/IllegalArgumentException" (some "argument type mismatch") from zo_zS (names := ["java/lang/RuntimeException", "java/lang/Exception"]) (nb := 110) hx hts hU hlk hT hZ (by decide +kernel) (by decide +kernel) (by decide +kernel) (by decide +kernel) xat_I hP hS hl (by decide +kernel) (zo_110) (by decide) (by simp only [List.length_cons, List.length_nil]; omega) hlo (by omega) (by decide) hce hsl kx) T hT9 X9 { method := m9, args := seenByNative meth9 #[.ref a, .int (iI i)], locked := none } rfl rfl rfl
  refine ⟨t, fun acts => ?_, b1⟩
  refine zn_throws (row := Native.java_lang_reflect_Array.elements.getX name letter rule X) (g := F0 m pc ls rest) X9.here acts N9.cls N9.meth N9.boot N9.native N9.noCode N9.noLock (by rw [N9.className, N9.name, N9.desc]; exact y3 p) (by rw [N9.className, N9.name]; exact hroom) (fun E9 hq => ?_) a1
  rw [hseen] at hq ⊢
  exact zw_getMis hcell hobj hkA hkind hkn hr i3 i4 hv0 hw (fun acts' => hq acts')
theorem zn_setRef (C : ZC κ own nm cc nL ret rm P) (hκ : κ.1 = θ) (hκl : κ.2.2.1 = l) (hT : zTb θ) (hZ : zTx θ l) (hsn : ∀ m9 : Method, m9.isStatic = true → m9.sig.parameters = [.object "java/lang/Object", .int, X] → seenByNative m9 #[.ref a, .int (iI i), v] = #[.ref a, .int (iI i), v]) (hM : M a = some (.inl (cA, x))) (ht : (zTys θ)[t0]? = some (cA, ty)) (hr : Native.java_lang_reflect_Array.elements.isReference ty = true) (hy : zNs y name letter rule X (v.category)) (hw0 : zNc1 y own index) (d : decode cc pc = .ok (.invokestatic index, 3)) (hf : 9 ≤ rm.frames) (hlo : 10250 ≤ rm.locals) (hsz : (rest.map fun v => v.category).sum ≤ 8) (hce : n + 3 ≤ rm.cells) (hsl : k + 210 ≤ rm.slots) (kx : ∀ b : Nat, zX κ (zP θ M N) (n + 3) (k + 210) pc lv b "java/lang/IllegalArgumentException") : Z κ (zP θ M N) n k pc lv (v :: .int (iI i) :: .ref a :: rest) := by
  subst hκ; subst hκl
  obtain ⟨θ, p, l, e, R, s, m, args, below, meth, c, Q⟩ := κ
  obtain ⟨hx, hb, hml, hown, hts, hU, hlk, hret, hnm, rfl, hQ⟩ := C
  have hK := hU.2.2.2
  obtain ⟨y1, y2, y3, y4⟩ := hy
  obtain ⟨w1, w2, w3, w4⟩ := hw0
  intro H locs ls hP hS hl
  refine zn_W hx (ps := [.object "java/lang/Object", .int, X]) (argsL := [.ref a, .int (iI i), v]) (rest := rest) hb hl.1 hown (hts _ w1) (hts _ w2) (hts _ w3) (hts _ w4) y2 ⟨by rw [y1]; decide, by rw [y1]; decide⟩ rfl d (by omega) (by have hcat : operandWords [.ref a, .int (iI i), v] = 2 + v.category := zcat3 _ _ v; show (rest.map fun v => v.category).sum + (nativeFrameWords y.cls y.name (operandWords [.ref a, .int (iI i), v]) + 11) ≤ _; rw [hcat]; omega) (fun T hT9 X9 m9 k9 meth9 N9 hroom => ?_)
  have hal := X9.warmed.alike
  have hcell : T.heap[a]? = some (vp_cell cA x) := by rw [hT9]; exact (hP.1 a _ hM).1
  obtain ⟨hobj, kA, hkA, comp, hkind⟩ := arrOfT_moved hal (hK.2 t0 _ ht).1 x.1 (zvl x)
  rw [← zvl_cell] at hobj hkA
  have hkn : (vp_cell cA x).vm ≠ .unknown := by rw [zvl_known]; intro h; cases h
  have hsize : (vp_cell cA x).slots.size = x.1 := by rw [zvl_cell, arrV_size]
  have hseen := hsn meth9 N9.static N9.sig
  obtain ⟨t, a1, b1⟩ := (show zo_Note p l e R s m args below meth c H locs n k Q (F0 m pc ls rest) "java/lang/IllegalArgumentException" (some "Argument is not an array of primitive type") from zo_zS (names := ["java/lang/RuntimeException", "java/lang/Exception"]) (nb := 200) hx hts hU hlk hT hZ (by decide +kernel) (by decide +kernel) (by decide +kernel) (by decide +kernel) xat_I hP hS hl (by decide +kernel) (zo_200) (by decide) (by simp only [List.length_cons, List.length_nil]; omega) hlo (by omega) (by decide) hce hsl kx) T hT9 X9 { method := m9, args := seenByNative meth9 #[.ref a, .int (iI i), v], locked := none } rfl rfl rfl
  refine ⟨t, fun acts => ?_, b1⟩
  refine zn_throws (row := Native.java_lang_reflect_Array.elements.setX name letter rule X) (g := F0 m pc ls rest) X9.here acts N9.cls N9.meth N9.boot N9.native N9.noCode N9.noLock (by rw [N9.className, N9.name, N9.desc]; exact y3 p) (by rw [N9.className, N9.name]; exact hroom) (fun E9 hq => ?_) a1
  rw [hseen] at hq ⊢
  exact zw_setRef hcell hobj hkA hkind hr (fun acts' => hq acts')
theorem zn_setOut (C : ZC κ own nm cc nL ret rm P) (hκ : κ.1 = θ) (hκl : κ.2.2.1 = l) (hT : zTb θ) (hZ : zTx θ l) (hsn : ∀ m9 : Method, m9.isStatic = true → m9.sig.parameters = [.object "java/lang/Object", .int, X] → seenByNative m9 #[.ref a, .int (iI i), v] = #[.ref a, .int (iI i), v]) (hM : M a = some (.inl (cA, x))) (ht : (zTys θ)[t0]? = some (cA, ty)) (hr : Native.java_lang_reflect_Array.elements.isReference ty = false) (hi : inR i) (hout : i < 0 ∨ (x.1 : Int) ≤ i) (hy : zNs y name letter rule X (v.category)) (hw0 : zNc1 y own index) (d : decode cc pc = .ok (.invokestatic index, 3)) (hf : 9 ≤ rm.frames) (hlo : 10250 ≤ rm.locals) (hsz : (rest.map fun v => v.category).sum ≤ 8) (hce : n + 1 ≤ rm.cells) (hsl : k + 6 ≤ rm.slots) (kx : ∀ b : Nat, zX κ (zP θ M N) (n + 1) (k + 6) pc lv b "java/lang/ArrayIndexOutOfBoundsException") : Z κ (zP θ M N) n k pc lv (v :: .int (iI i) :: .ref a :: rest) := by
  subst hκ; subst hκl
  obtain ⟨θ, p, l, e, R, s, m, args, below, meth, c, Q⟩ := κ
  obtain ⟨hx, hb, hml, hown, hts, hU, hlk, hret, hnm, rfl, hQ⟩ := C
  have hK := hU.2.2.2
  obtain ⟨y1, y2, y3, y4⟩ := hy
  obtain ⟨w1, w2, w3, w4⟩ := hw0
  intro H locs ls hP hS hl
  refine zn_W hx (ps := [.object "java/lang/Object", .int, X]) (argsL := [.ref a, .int (iI i), v]) (rest := rest) hb hl.1 hown (hts _ w1) (hts _ w2) (hts _ w3) (hts _ w4) y2 ⟨by rw [y1]; decide, by rw [y1]; decide⟩ rfl d (by omega) (by have hcat : operandWords [.ref a, .int (iI i), v] = 2 + v.category := zcat3 _ _ v; show (rest.map fun v => v.category).sum + (nativeFrameWords y.cls y.name (operandWords [.ref a, .int (iI i), v]) + 11) ≤ _; rw [hcat]; omega) (fun T hT9 X9 m9 k9 meth9 N9 hroom => ?_)
  have hal := X9.warmed.alike
  have hcell : T.heap[a]? = some (vp_cell cA x) := by rw [hT9]; exact (hP.1 a _ hM).1
  obtain ⟨hobj, kA, hkA, comp, hkind⟩ := arrOfT_moved hal (hK.2 t0 _ ht).1 x.1 (zvl x)
  rw [← zvl_cell] at hobj hkA
  have hkn : (vp_cell cA x).vm ≠ .unknown := by rw [zvl_known]; intro h; cases h
  have hsize : (vp_cell cA x).slots.size = x.1 := by rw [zvl_cell, arrV_size]
  have hout' : iI i < 0 ∨ (vp_cell cA x).slots.size ≤ (iI i).toNatClampNeg := by rw [hsize]; exact Classical.byContradiction fun hc => by have h8 : vp_in (iI i) x.1 := hc; rw [vp_in_iff, iI_toInt hi] at h8; omega
  have hseen := hsn meth9 N9.static N9.sig
  obtain ⟨t, a1, b1⟩ := (show zo_Note p l e R s m args below meth c H locs n k Q (F0 m pc ls rest) "java/lang/ArrayIndexOutOfBoundsException" none from zo_z0 (names := ["java/lang/IndexOutOfBoundsException", "java/lang/RuntimeException", "java/lang/Exception"]) hx hts hU hlk hT hZ (by decide +kernel) (by decide +kernel) (by decide +kernel) (by decide +kernel) xat_A0 q126 hP hS hl (by simp only [List.length_cons, List.length_nil]; omega) hlo (by omega) (by decide) hce hsl kx) T hT9 X9 { method := m9, args := seenByNative meth9 #[.ref a, .int (iI i), v], locked := none } rfl rfl rfl
  refine ⟨t, fun acts => ?_, b1⟩
  refine zn_throws (row := Native.java_lang_reflect_Array.elements.setX name letter rule X) (g := F0 m pc ls rest) X9.here acts N9.cls N9.meth N9.boot N9.native N9.noCode N9.noLock (by rw [N9.className, N9.name, N9.desc]; exact y3 p) (by rw [N9.className, N9.name]; exact hroom) (fun E9 hq => ?_) a1
  rw [hseen] at hq ⊢
  exact zw_setOut hcell hobj hkA hkind hr hout' (fun acts' => hq acts')
theorem zn_setMis (C : ZC κ own nm cc nL ret rm P) (hκ : κ.1 = θ) (hκl : κ.2.2.1 = l) (hT : zTb θ) (hZ : zTx θ l) (hsn : ∀ m9 : Method, m9.isStatic = true → m9.sig.parameters = [.object "java/lang/Object", .int, X] → seenByNative m9 #[.ref a, .int (iI i), v] = #[.ref a, .int (iI i), v]) (hM : M a = some (.inl (cA, x))) (ht : (zTys θ)[t0]? = some (cA, ty)) (hr : Native.java_lang_reflect_Array.elements.isReference ty = false) (h0 : 0 ≤ i) (h1 : i < (x.1 : Int)) (h2 : x.1 ≤ 2147483647) (hw : Native.java_lang_reflect_Array.elements.widen X ty v = none) (hy : zNs y name letter rule X (v.category)) (hw0 : zNc1 y own index) (d : decode cc pc = .ok (.invokestatic index, 3)) (hf : 9 ≤ rm.frames) (hlo : 10250 ≤ rm.locals) (hsz : (rest.map fun v => v.category).sum ≤ 8) (hce : n + 3 ≤ rm.cells) (hsl : k + 120 ≤ rm.slots) (kx : ∀ b : Nat, zX κ (zP θ M N) (n + 3) (k + 120) pc lv b "java/lang/IllegalArgumentException") : Z κ (zP θ M N) n k pc lv (v :: .int (iI i) :: .ref a :: rest) := by
  subst hκ; subst hκl
  obtain ⟨θ, p, l, e, R, s, m, args, below, meth, c, Q⟩ := κ
  obtain ⟨hx, hb, hml, hown, hts, hU, hlk, hret, hnm, rfl, hQ⟩ := C
  have hK := hU.2.2.2
  obtain ⟨y1, y2, y3, y4⟩ := hy
  obtain ⟨w1, w2, w3, w4⟩ := hw0
  intro H locs ls hP hS hl
  refine zn_W hx (ps := [.object "java/lang/Object", .int, X]) (argsL := [.ref a, .int (iI i), v]) (rest := rest) hb hl.1 hown (hts _ w1) (hts _ w2) (hts _ w3) (hts _ w4) y2 ⟨by rw [y1]; decide, by rw [y1]; decide⟩ rfl d (by omega) (by have hcat : operandWords [.ref a, .int (iI i), v] = 2 + v.category := zcat3 _ _ v; show (rest.map fun v => v.category).sum + (nativeFrameWords y.cls y.name (operandWords [.ref a, .int (iI i), v]) + 11) ≤ _; rw [hcat]; omega) (fun T hT9 X9 m9 k9 meth9 N9 hroom => ?_)
  have hal := X9.warmed.alike
  have hcell : T.heap[a]? = some (vp_cell cA x) := by rw [hT9]; exact (hP.1 a _ hM).1
  obtain ⟨hobj, kA, hkA, comp, hkind⟩ := arrOfT_moved hal (hK.2 t0 _ ht).1 x.1 (zvl x)
  rw [← zvl_cell] at hobj hkA
  have hkn : (vp_cell cA x).vm ≠ .unknown := by rw [zvl_known]; intro h; cases h
  have hsize : (vp_cell cA x).slots.size = x.1 := by rw [zvl_cell, arrV_size]
  obtain ⟨i1, i2⟩ := zin_of h0 h1 h2
  have i3 : ¬ iI i < 0 := fun h => i1 (Or.inl h)
  have i4 : (iI i).toNatClampNeg < (vp_cell cA x).slots.size := by rw [hsize]; exact Nat.lt_of_not_le (fun h => i1 (Or.inr h))
  have hv0 : (vp_cell cA x).slots[(iI i).toNatClampNeg]? = some (zvl x i.toNat) := by rw [zvl_cell, i2]; exact arrV_read cA (zvl x) (by omega)
  have hseen := hsn meth9 N9.static N9.sig
  obtain ⟨t, a1, b1⟩ := (show zo_Note p l e R s m args below meth c H locs n k Q (F0 m pc ls rest) "java/lang/IllegalArgumentException" (some "argument type mismatch") from zo_zS (names := ["java/lang/RuntimeException", "java/lang/Exception"]) (nb := 110) hx hts hU hlk hT hZ (by decide +kernel) (by decide +kernel) (by decide +kernel) (by decide +kernel) xat_I hP hS hl (by decide +kernel) (zo_110) (by decide) (by simp only [List.length_cons, List.length_nil]; omega) hlo (by omega) (by decide) hce hsl kx) T hT9 X9 { method := m9, args := seenByNative meth9 #[.ref a, .int (iI i), v], locked := none } rfl rfl rfl
  refine ⟨t, fun acts => ?_, b1⟩
  refine zn_throws (row := Native.java_lang_reflect_Array.elements.setX name letter rule X) (g := F0 m pc ls rest) X9.here acts N9.cls N9.meth N9.boot N9.native N9.noCode N9.noLock (by rw [N9.className, N9.name, N9.desc]; exact y3 p) (by rw [N9.className, N9.name]; exact hroom) (fun E9 hq => ?_) a1
  rw [hseen] at hq ⊢
  exact zw_setMis hcell hobj hkA hkind hr i3 i4 hw (fun acts' => hq acts')
end ZNR
theorem zy_getBoolean : zNg (⟨"java/lang/reflect/Array", "getBoolean", "(Ljava/lang/Object;I)Z"⟩ : MethodName) "Boolean" "Z" "nat.java_lang_reflect_Array.getBoolean" .boolean := ⟨rfl, by decide +kernel, zr_getBoolean, by decide +kernel⟩
theorem zc_getBoolean : zNc1 (⟨"java/lang/reflect/Array", "getBoolean", "(Ljava/lang/Object;I)Z"⟩ : MethodName) "ReflectMirror" 69 := ⟨q1526, q1528, q1527, q131⟩
theorem zy_getChar : zNg (⟨"java/lang/reflect/Array", "getChar", "(Ljava/lang/Object;I)C"⟩ : MethodName) "Char" "C" "nat.java_lang_reflect_Array.getChar" .char := ⟨rfl, by decide +kernel, zr_getChar, by decide +kernel⟩
theorem zc_getChar : zNc1 (⟨"java/lang/reflect/Array", "getChar", "(Ljava/lang/Object;I)C"⟩ : MethodName) "ReflectMirror" 81 := ⟨q1529, q1531, q1530, q131⟩
theorem zy_getByte : zNg (⟨"java/lang/reflect/Array", "getByte", "(Ljava/lang/Object;I)B"⟩ : MethodName) "Byte" "B" "nat.java_lang_reflect_Array.getByte" .byte := ⟨rfl, by decide +kernel, zr_getByte, by decide +kernel⟩
theorem zc_getByte : zNc1 (⟨"java/lang/reflect/Array", "getByte", "(Ljava/lang/Object;I)B"⟩ : MethodName) "ReflectMirror" 85 := ⟨q1532, q1534, q1533, q131⟩
theorem zy_getShort : zNg (⟨"java/lang/reflect/Array", "getShort", "(Ljava/lang/Object;I)S"⟩ : MethodName) "Short" "S" "nat.java_lang_reflect_Array.getShort" .short := ⟨rfl, by decide +kernel, zr_getShort, by decide +kernel⟩
theorem zc_getShort : zNc1 (⟨"java/lang/reflect/Array", "getShort", "(Ljava/lang/Object;I)S"⟩ : MethodName) "ReflectMirror" 89 := ⟨q1535, q1537, q1536, q131⟩
theorem zy_getInt : zNg (⟨"java/lang/reflect/Array", "getInt", "(Ljava/lang/Object;I)I"⟩ : MethodName) "Int" "I" "nat.java_lang_reflect_Array.getInt" .int := ⟨rfl, by decide +kernel, zr_getInt, by decide +kernel⟩
theorem zc_getInt : zNc1 (⟨"java/lang/reflect/Array", "getInt", "(Ljava/lang/Object;I)I"⟩ : MethodName) "ReflectMirror" 93 := ⟨q1538, q1540, q1539, q131⟩
theorem zy_getLong : zNg (⟨"java/lang/reflect/Array", "getLong", "(Ljava/lang/Object;I)J"⟩ : MethodName) "Long" "J" "nat.java_lang_reflect_Array.getLong" .long := ⟨rfl, by decide +kernel, zr_getLong, by decide +kernel⟩
theorem zc_getLong : zNc1 (⟨"java/lang/reflect/Array", "getLong", "(Ljava/lang/Object;I)J"⟩ : MethodName) "ReflectMirror" 97 := ⟨q1541, q1543, q1542, q131⟩
theorem zy_getFloat : zNg (⟨"java/lang/reflect/Array", "getFloat", "(Ljava/lang/Object;I)F"⟩ : MethodName) "Float" "F" "nat.java_lang_reflect_Array.getFloat" .float := ⟨rfl, by decide +kernel, zr_getFloat, by decide +kernel⟩
theorem zc_getFloat : zNc1 (⟨"java/lang/reflect/Array", "getFloat", "(Ljava/lang/Object;I)F"⟩ : MethodName) "ReflectMirror" 101 := ⟨q1544, q1546, q1545, q131⟩
theorem zy_getDouble : zNg (⟨"java/lang/reflect/Array", "getDouble", "(Ljava/lang/Object;I)D"⟩ : MethodName) "Double" "D" "nat.java_lang_reflect_Array.getDouble" .double := ⟨rfl, by decide +kernel, zr_getDouble, by decide +kernel⟩
theorem zc_getDouble : zNc1 (⟨"java/lang/reflect/Array", "getDouble", "(Ljava/lang/Object;I)D"⟩ : MethodName) "ReflectMirror" 111 := ⟨q1557, q1559, q1558, q131⟩
theorem zy_setBoolean : zNs (⟨"java/lang/reflect/Array", "setBoolean", "(Ljava/lang/Object;IZ)V"⟩ : MethodName) "Boolean" "Z" "nat.java_lang_reflect_Array.setBoolean" .boolean 1 := ⟨rfl, by decide +kernel, zr_setBoolean, by decide +kernel⟩
theorem zc_setBoolean : zNc1 (⟨"java/lang/reflect/Array", "setBoolean", "(Ljava/lang/Object;IZ)V"⟩ : MethodName) "ReflectMirror" 140 := ⟨q1589, q1591, q1590, q131⟩
theorem zy_setChar : zNs (⟨"java/lang/reflect/Array", "setChar", "(Ljava/lang/Object;IC)V"⟩ : MethodName) "Char" "C" "nat.java_lang_reflect_Array.setChar" .char 1 := ⟨rfl, by decide +kernel, zr_setChar, by decide +kernel⟩
theorem zc_setChar : zNc1 (⟨"java/lang/reflect/Array", "setChar", "(Ljava/lang/Object;IC)V"⟩ : MethodName) "ReflectMirror" 144 := ⟨q1592, q1594, q1593, q131⟩
theorem zy_setByte : zNs (⟨"java/lang/reflect/Array", "setByte", "(Ljava/lang/Object;IB)V"⟩ : MethodName) "Byte" "B" "nat.java_lang_reflect_Array.setByte" .byte 1 := ⟨rfl, by decide +kernel, zr_setByte, by decide +kernel⟩
theorem zc_setByte : zNc1 (⟨"java/lang/reflect/Array", "setByte", "(Ljava/lang/Object;IB)V"⟩ : MethodName) "ReflectMirror" 148 := ⟨q1595, q1597, q1596, q131⟩
theorem zy_setShort : zNs (⟨"java/lang/reflect/Array", "setShort", "(Ljava/lang/Object;IS)V"⟩ : MethodName) "Short" "S" "nat.java_lang_reflect_Array.setShort" .short 1 := ⟨rfl, by decide +kernel, zr_setShort, by decide +kernel⟩
theorem zc_setShort : zNc1 (⟨"java/lang/reflect/Array", "setShort", "(Ljava/lang/Object;IS)V"⟩ : MethodName) "ReflectMirror" 152 := ⟨q1598, q1600, q1599, q131⟩
theorem zy_setInt : zNs (⟨"java/lang/reflect/Array", "setInt", "(Ljava/lang/Object;II)V"⟩ : MethodName) "Int" "I" "nat.java_lang_reflect_Array.setInt" .int 1 := ⟨rfl, by decide +kernel, zr_setInt, by decide +kernel⟩
theorem zc_setInt : zNc1 (⟨"java/lang/reflect/Array", "setInt", "(Ljava/lang/Object;II)V"⟩ : MethodName) "ReflectMirror" 156 := ⟨q1601, q1603, q1602, q131⟩
theorem zy_setLong : zNs (⟨"java/lang/reflect/Array", "setLong", "(Ljava/lang/Object;IJ)V"⟩ : MethodName) "Long" "J" "nat.java_lang_reflect_Array.setLong" .long 2 := ⟨rfl, by decide +kernel, zr_setLong, by decide +kernel⟩
theorem zc_setLong : zNc1 (⟨"java/lang/reflect/Array", "setLong", "(Ljava/lang/Object;IJ)V"⟩ : MethodName) "ReflectMirror" 160 := ⟨q1604, q1606, q1605, q131⟩
theorem zy_setFloat : zNs (⟨"java/lang/reflect/Array", "setFloat", "(Ljava/lang/Object;IF)V"⟩ : MethodName) "Float" "F" "nat.java_lang_reflect_Array.setFloat" .float 1 := ⟨rfl, by decide +kernel, zr_setFloat, by decide +kernel⟩
theorem zc_setFloat : zNc1 (⟨"java/lang/reflect/Array", "setFloat", "(Ljava/lang/Object;IF)V"⟩ : MethodName) "ReflectMirror" 168 := ⟨q1614, q1616, q1615, q131⟩
theorem zy_setDouble : zNs (⟨"java/lang/reflect/Array", "setDouble", "(Ljava/lang/Object;ID)V"⟩ : MethodName) "Double" "D" "nat.java_lang_reflect_Array.setDouble" .double 2 := ⟨rfl, by decide +kernel, zr_setDouble, by decide +kernel⟩
theorem zc_setDouble : zNc1 (⟨"java/lang/reflect/Array", "setDouble", "(Ljava/lang/Object;ID)V"⟩ : MethodName) "ReflectMirror" 176 := ⟨q1624, q1626, q1625, q131⟩
