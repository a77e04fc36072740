/-! EXCEPTIONS THAT COSTSTUDIO THROWS BY 'throw new X()' -/
theorem ex_T {p : Program} {s : State} {m : MethodId} {args : Array Value} {meth : Method} {c : Code} {cc : ByteArray} {nL : Nat} {E : Ev} {own : String} (S : gS E p m meth c cc nL s args own) : ∀ w ∈ Bundle.throwableAtoms, vx_no w = true → w.before args s = true := by
  intro w hw hno
  simp only [Bundle.throwableAtoms, List.mem_cons, List.not_mem_nil, or_false] at hw
  rcases hw with rfl | rfl | rfl | rfl | rfl | rfl | rfl | rfl | rfl | rfl | rfl | rfl | rfl | rfl | rfl | rfl | rfl | rfl | rfl | rfl | rfl | rfl | rfl | rfl
  · exact S.ts _ q40
  · exact S.ts _ q292
  · exact S.ts _ q301
  · exact S.ts _ q311
  · exact S.ts _ q314
  · exact S.ts _ q316
  · exact S.ts _ q293
  · exact S.ts _ q294
  · exact S.ts _ q72
  · exact S.ts _ q73
  · exact S.ts _ q295
  · exact S.ts _ q300
  · exact S.ts _ q312
  · exact S.ts _ q329
  · exact S.ts _ q282
  · exact S.ts _ q330
  · exact S.ts _ q284
  · exact S.ts _ q331
  · exact S.ts _ q286
  · exact S.ts _ q296
  · exact absurd hno (by decide +kernel)
  · exact S.ts _ q298
  · exact absurd hno (by decide +kernel)
  · exact S.ts _ q288
theorem ex_P1 {p : Program} {s : State} {m : MethodId} {args : Array Value} {meth : Method} {c : Code} {cc : ByteArray} {nL : Nat} {E : Ev} {own : String} (S : gS E p m meth c cc nL s args own) : ∀ w ∈ Bundle.passAtoms "java/lang/RuntimeException" "java/lang/Exception" 1 Bundle.five, vx_no w = true → w.before args s = true := by
  intro w hw hno
  simp only [Bundle.passAtoms, List.mem_cons, List.not_mem_nil, or_false] at hw
  rcases hw with rfl | rfl | rfl | rfl | rfl
  · exact S.ts _ q321
  · exact S.ts _ q322
  · exact S.ts _ q323
  · exact S.ts _ q324
  · exact va_Nw.use rfl (S.2.1.W q275 rfl)
theorem ex_P2 {p : Program} {s : State} {m : MethodId} {args : Array Value} {meth : Method} {c : Code} {cc : ByteArray} {nL : Nat} {E : Ev} {own : String} (S : gS E p m meth c cc nL s args own) : ∀ w ∈ Bundle.passAtoms "java/lang/Exception" "java/lang/Throwable" 1 Bundle.five, vx_no w = true → w.before args s = true := by
  intro w hw hno
  simp only [Bundle.passAtoms, List.mem_cons, List.not_mem_nil, or_false] at hw
  rcases hw with rfl | rfl | rfl | rfl | rfl
  · exact S.ts _ q324
  · exact S.ts _ q325
  · exact S.ts _ q326
  · exact S.ts _ q293
  · exact va_Nw.use rfl (S.2.1.W q277 rfl)
theorem ex_P_J9 {p : Program} {s : State} {m : MethodId} {args : Array Value} {meth : Method} {c : Code} {cc : ByteArray} {nL : Nat} {E : Ev} {own : String} (S : gS E p m meth c cc nL s args own) : ∀ w ∈ Bundle.passAtoms "java/lang/IllegalArgumentException" "java/lang/RuntimeException" 1 Bundle.five, vx_no w = true → w.before args s = true := by
  intro w hw hno
  simp only [Bundle.passAtoms, List.mem_cons, List.not_mem_nil, or_false] at hw
  rcases hw with rfl | rfl | rfl | rfl | rfl
  · exact S.ts _ q364
  · exact S.ts _ q365
  · exact S.ts _ q366
  · exact S.ts _ q321
  · exact va_Nw.use rfl (S.2.1.W q273 rfl)
theorem ex_J9 {p : Program} {s : State} {m : MethodId} {args : Array Value} {meth : Method} {c : Code} {cc : ByteArray} {nL : Nat} {E : Ev} (S : gS E p m meth c cc nL s args RX1) : ∀ w ∈ vx_at0 RX1 15 "java/lang/IllegalArgumentException" ["java/lang/RuntimeException", "java/lang/Exception"], w.before args s = true := by
  intro w hw
  obtain ⟨hw, hno⟩ := List.mem_filter.mp hw
  unfold Bundle.ownAtoms0 Bundle.chain0Atoms Bundle.chain0Atoms Bundle.chain0Atoms at hw
  rcases List.mem_append.mp hw with hw | hw
  · rcases List.mem_append.mp hw with hw | hw
    · exact ex_T S w hw hno
    · rcases List.mem_append.mp hw with hw | hw
      · exact ex_P_J9 S w hw hno
      · rcases List.mem_append.mp hw with hw | hw
        · exact ex_P1 S w hw hno
        · exact ex_P2 S w hw hno
  · simp only [List.mem_cons, List.not_mem_nil, or_false] at hw
    rcases hw with rfl | rfl | rfl | rfl | rfl | rfl | rfl | rfl | rfl | rfl | rfl | rfl | rfl | rfl
    · exact S.ts _ q363
    · exact S.ts _ q355
    · exact va_Nw.use rfl (S.2.1.W q356 rfl)
    · exact S.ts _ q357
    · exact S.ts _ q307
    · exact S.ts _ q358
    · exact S.ts _ q359
    · exact S.ts _ q360
    · exact S.ts _ q361
    · exact absurd hno (by decide +kernel)
    · exact absurd hno (by decide +kernel)
    · exact S.ts _ q291
    · exact S.ts _ q290
    · exact S.ts _ q362
theorem g_thr_J9 {p : Program} {l : Launch} {e : Env} {R : Room} {s : State} {m : MethodId} {args : Array Value} {below : List Frame} {meth : Method} {c : Code} {H : Heap} {locs : List Loc} {cells slots : Nat} {cc : ByteArray} {pc nL : Nat} {ls : Array Slot} {rest : List Value} {E : Ev} {G : gh} {mc ms : Nat} {post : Option Value → gh → Prop} {px : String → gh → Prop} (hl0 : l.stackTraces = false) (S : gS E p m meth c cc nL s args RX1) (hnL : ls.size = nL) (hno : ∀ x ∈ c.exceptionTable.toList, covers x (pc + 7) = false)
    (d0 : decode cc pc = .ok (.new 13, 3)) (d3 : decode cc (pc + 3) = .ok (.dup, 1)) (d4 : decode cc (pc + 4) = .ok (.invokespecial 15, 3)) (d7 : decode cc (pc + 7) = .ok (.athrow, 1)) (hG : gh_W E G H) (hS : va_S (ev_A E) s.heap H locs)
    (hRf : 5 < R.frames) (hRl : (rest.map fun v => v.category).sum + 81 ≤ R.locals) (hRc : cells + 1 ≤ R.cells) (hRs : slots + 6 ≤ R.slots) (hc : cells + 1 ≤ mc) (hs : slots + 6 ≤ ms) (hp : px "java/lang/IllegalArgumentException" G) :
    W p l e R s m args below meth c H locs cells slots (vx_MQ below (gQ E post) (gX E px) args s mc ms (ev_A E)) (F0 m pc ls rest) :=
  vx_throw0 (names := ["java/lang/RuntimeException", "java/lang/Exception"]) (cls := "java/lang/IllegalArgumentException") S.1.1 S.1.2.1 hl0 S.1.2.2.2.1 (by decide +kernel) (by decide +kernel) (S.ts _ q354) (S.ts _ q43) (ex_J9 S) (by decide +kernel) S.2.1.2.2.2.1.1 S.2.1.2.2.2.1.2 hS (hnL.trans S.1.2.2.1.symm) d0 d3 d4 d7 hno hRf hRl hRc hRs S.2.2
    (fun t _ hz hq => ⟨⟨G, hp, hG.kept (fun q _ h => hq q h)⟩, Nat.le_trans hS.1 hz, fun q h1 h2 => (hq q (Nat.lt_of_lt_of_le h1 hS.1)).trans (hS.2.1 q h1 h2)⟩) hS.2.2 hc hs
theorem ex_P_J10 {p : Program} {s : State} {m : MethodId} {args : Array Value} {meth : Method} {c : Code} {cc : ByteArray} {nL : Nat} {E : Ev} {own : String} (S : gS E p m meth c cc nL s args own) : ∀ w ∈ Bundle.passAtoms "java/lang/IllegalStateException" "java/lang/RuntimeException" 1 Bundle.five, vx_no w = true → w.before args s = true := by
  intro w hw hno
  simp only [Bundle.passAtoms, List.mem_cons, List.not_mem_nil, or_false] at hw
  rcases hw with rfl | rfl | rfl | rfl | rfl
  · exact S.ts _ q391
  · exact S.ts _ q392
  · exact S.ts _ q393
  · exact S.ts _ q321
  · exact va_Nw.use rfl (S.2.1.W q273 rfl)
theorem ex_J10 {p : Program} {s : State} {m : MethodId} {args : Array Value} {meth : Method} {c : Code} {cc : ByteArray} {nL : Nat} {E : Ev} (S : gS E p m meth c cc nL s args RX1) : ∀ w ∈ vx_at0 RX1 18 "java/lang/IllegalStateException" ["java/lang/RuntimeException", "java/lang/Exception"], w.before args s = true := by
  intro w hw
  obtain ⟨hw, hno⟩ := List.mem_filter.mp hw
  unfold Bundle.ownAtoms0 Bundle.chain0Atoms Bundle.chain0Atoms Bundle.chain0Atoms at hw
  rcases List.mem_append.mp hw with hw | hw
  · rcases List.mem_append.mp hw with hw | hw
    · exact ex_T S w hw hno
    · rcases List.mem_append.mp hw with hw | hw
      · exact ex_P_J10 S w hw hno
      · rcases List.mem_append.mp hw with hw | hw
        · exact ex_P1 S w hw hno
        · exact ex_P2 S w hw hno
  · simp only [List.mem_cons, List.not_mem_nil, or_false] at hw
    rcases hw with rfl | rfl | rfl | rfl | rfl | rfl | rfl | rfl | rfl | rfl | rfl | rfl | rfl | rfl
    · exact S.ts _ q390
    · exact S.ts _ q382
    · exact va_Nw.use rfl (S.2.1.W q383 rfl)
    · exact S.ts _ q384
    · exact S.ts _ q308
    · exact S.ts _ q385
    · exact S.ts _ q386
    · exact S.ts _ q387
    · exact S.ts _ q388
    · exact absurd hno (by decide +kernel)
    · exact absurd hno (by decide +kernel)
    · exact S.ts _ q291
    · exact S.ts _ q290
    · exact S.ts _ q389
theorem g_thr_J10 {p : Program} {l : Launch} {e : Env} {R : Room} {s : State} {m : MethodId} {args : Array Value} {below : List Frame} {meth : Method} {c : Code} {H : Heap} {locs : List Loc} {cells slots : Nat} {cc : ByteArray} {pc nL : Nat} {ls : Array Slot} {rest : List Value} {E : Ev} {G : gh} {mc ms : Nat} {post : Option Value → gh → Prop} {px : String → gh → Prop} (hl0 : l.stackTraces = false) (S : gS E p m meth c cc nL s args RX1) (hnL : ls.size = nL) (hno : ∀ x ∈ c.exceptionTable.toList, covers x (pc + 7) = false)
    (d0 : decode cc pc = .ok (.new 16, 3)) (d3 : decode cc (pc + 3) = .ok (.dup, 1)) (d4 : decode cc (pc + 4) = .ok (.invokespecial 18, 3)) (d7 : decode cc (pc + 7) = .ok (.athrow, 1)) (hG : gh_W E G H) (hS : va_S (ev_A E) s.heap H locs)
    (hRf : 5 < R.frames) (hRl : (rest.map fun v => v.category).sum + 81 ≤ R.locals) (hRc : cells + 1 ≤ R.cells) (hRs : slots + 6 ≤ R.slots) (hc : cells + 1 ≤ mc) (hs : slots + 6 ≤ ms) (hp : px "java/lang/IllegalStateException" G) :
    W p l e R s m args below meth c H locs cells slots (vx_MQ below (gQ E post) (gX E px) args s mc ms (ev_A E)) (F0 m pc ls rest) :=
  vx_throw0 (names := ["java/lang/RuntimeException", "java/lang/Exception"]) (cls := "java/lang/IllegalStateException") S.1.1 S.1.2.1 hl0 S.1.2.2.2.1 (by decide +kernel) (by decide +kernel) (S.ts _ q381) (S.ts _ q44) (ex_J10 S) (by decide +kernel) S.2.1.2.2.2.1.1 S.2.1.2.2.2.1.2 hS (hnL.trans S.1.2.2.1.symm) d0 d3 d4 d7 hno hRf hRl hRc hRs S.2.2
    (fun t _ hz hq => ⟨⟨G, hp, hG.kept (fun q _ h => hq q h)⟩, Nat.le_trans hS.1 hz, fun q h1 h2 => (hq q (Nat.lt_of_lt_of_le h1 hS.1)).trans (hS.2.1 q h1 h2)⟩) hS.2.2 hc hs
theorem ex_P_J13 {p : Program} {s : State} {m : MethodId} {args : Array Value} {meth : Method} {c : Code} {cc : ByteArray} {nL : Nat} {E : Ev} {own : String} (S : gS E p m meth c cc nL s args own) : ∀ w ∈ Bundle.passAtoms "java/lang/IndexOutOfBoundsException" "java/lang/RuntimeException" 1 Bundle.five, vx_no w = true → w.before args s = true := by
  intro w hw hno
  simp only [Bundle.passAtoms, List.mem_cons, List.not_mem_nil, or_false] at hw
  rcases hw with rfl | rfl | rfl | rfl | rfl
  · exact S.ts _ q473
  · exact S.ts _ q474
  · exact S.ts _ q475
  · exact S.ts _ q321
  · exact va_Nw.use rfl (S.2.1.W q273 rfl)
theorem ex_J13 {p : Program} {s : State} {m : MethodId} {args : Array Value} {meth : Method} {c : Code} {cc : ByteArray} {nL : Nat} {E : Ev} (S : gS E p m meth c cc nL s args RX1) : ∀ w ∈ vx_at0 RX1 3 "java/lang/IndexOutOfBoundsException" ["java/lang/RuntimeException", "java/lang/Exception"], w.before args s = true := by
  intro w hw
  obtain ⟨hw, hno⟩ := List.mem_filter.mp hw
  unfold Bundle.ownAtoms0 Bundle.chain0Atoms Bundle.chain0Atoms Bundle.chain0Atoms at hw
  rcases List.mem_append.mp hw with hw | hw
  · rcases List.mem_append.mp hw with hw | hw
    · exact ex_T S w hw hno
    · rcases List.mem_append.mp hw with hw | hw
      · exact ex_P_J13 S w hw hno
      · rcases List.mem_append.mp hw with hw | hw
        · exact ex_P1 S w hw hno
        · exact ex_P2 S w hw hno
  · simp only [List.mem_cons, List.not_mem_nil, or_false] at hw
    rcases hw with rfl | rfl | rfl | rfl | rfl | rfl | rfl | rfl | rfl | rfl | rfl | rfl | rfl | rfl
    · exact S.ts _ q472
    · exact S.ts _ q464
    · exact va_Nw.use rfl (S.2.1.W q465 rfl)
    · exact S.ts _ q466
    · exact S.ts _ q309
    · exact S.ts _ q467
    · exact S.ts _ q468
    · exact S.ts _ q469
    · exact S.ts _ q470
    · exact absurd hno (by decide +kernel)
    · exact absurd hno (by decide +kernel)
    · exact S.ts _ q291
    · exact S.ts _ q290
    · exact S.ts _ q471
theorem g_thr_J13 {p : Program} {l : Launch} {e : Env} {R : Room} {s : State} {m : MethodId} {args : Array Value} {below : List Frame} {meth : Method} {c : Code} {H : Heap} {locs : List Loc} {cells slots : Nat} {cc : ByteArray} {pc nL : Nat} {ls : Array Slot} {rest : List Value} {E : Ev} {G : gh} {mc ms : Nat} {post : Option Value → gh → Prop} {px : String → gh → Prop} (hl0 : l.stackTraces = false) (S : gS E p m meth c cc nL s args RX1) (hnL : ls.size = nL) (hno : ∀ x ∈ c.exceptionTable.toList, covers x (pc + 7) = false)
    (d0 : decode cc pc = .ok (.new 1, 3)) (d3 : decode cc (pc + 3) = .ok (.dup, 1)) (d4 : decode cc (pc + 4) = .ok (.invokespecial 3, 3)) (d7 : decode cc (pc + 7) = .ok (.athrow, 1)) (hG : gh_W E G H) (hS : va_S (ev_A E) s.heap H locs)
    (hRf : 5 < R.frames) (hRl : (rest.map fun v => v.category).sum + 81 ≤ R.locals) (hRc : cells + 1 ≤ R.cells) (hRs : slots + 6 ≤ R.slots) (hc : cells + 1 ≤ mc) (hs : slots + 6 ≤ ms) (hp : px "java/lang/IndexOutOfBoundsException" G) :
    W p l e R s m args below meth c H locs cells slots (vx_MQ below (gQ E post) (gX E px) args s mc ms (ev_A E)) (F0 m pc ls rest) :=
  vx_throw0 (names := ["java/lang/RuntimeException", "java/lang/Exception"]) (cls := "java/lang/IndexOutOfBoundsException") S.1.1 S.1.2.1 hl0 S.1.2.2.2.1 (by decide +kernel) (by decide +kernel) (S.ts _ q463) (S.ts _ q48) (ex_J13 S) (by decide +kernel) S.2.1.2.2.2.1.1 S.2.1.2.2.2.1.2 hS (hnL.trans S.1.2.2.1.symm) d0 d3 d4 d7 hno hRf hRl hRc hRs S.2.2
    (fun t _ hz hq => ⟨⟨G, hp, hG.kept (fun q _ h => hq q h)⟩, Nat.le_trans hS.1 hz, fun q h1 h2 => (hq q (Nat.lt_of_lt_of_le h1 hS.1)).trans (hS.2.1 q h1 h2)⟩) hS.2.2 hc hs
theorem ex_P_J23 {p : Program} {s : State} {m : MethodId} {args : Array Value} {meth : Method} {c : Code} {cc : ByteArray} {nL : Nat} {E : Ev} {own : String} (S : gS E p m meth c cc nL s args own) : ∀ w ∈ Bundle.passAtoms "java/lang/UnsupportedOperationException" "java/lang/RuntimeException" 1 Bundle.five, vx_no w = true → w.before args s = true := by
  intro w hw hno
  simp only [Bundle.passAtoms, List.mem_cons, List.not_mem_nil, or_false] at hw
  rcases hw with rfl | rfl | rfl | rfl | rfl
  · exact S.ts _ q780
  · exact S.ts _ q781
  · exact S.ts _ q782
  · exact S.ts _ q321
  · exact va_Nw.use rfl (S.2.1.W q273 rfl)
theorem ex_J23 {p : Program} {s : State} {m : MethodId} {args : Array Value} {meth : Method} {c : Code} {cc : ByteArray} {nL : Nat} {E : Ev} (S : gS E p m meth c cc nL s args RX1) : ∀ w ∈ vx_at0 RX1 181 "java/lang/UnsupportedOperationException" ["java/lang/RuntimeException", "java/lang/Exception"], w.before args s = true := by
  intro w hw
  obtain ⟨hw, hno⟩ := List.mem_filter.mp hw
  unfold Bundle.ownAtoms0 Bundle.chain0Atoms Bundle.chain0Atoms Bundle.chain0Atoms at hw
  rcases List.mem_append.mp hw with hw | hw
  · rcases List.mem_append.mp hw with hw | hw
    · exact ex_T S w hw hno
    · rcases List.mem_append.mp hw with hw | hw
      · exact ex_P_J23 S w hw hno
      · rcases List.mem_append.mp hw with hw | hw
        · exact ex_P1 S w hw hno
        · exact ex_P2 S w hw hno
  · simp only [List.mem_cons, List.not_mem_nil, or_false] at hw
    rcases hw with rfl | rfl | rfl | rfl | rfl | rfl | rfl | rfl | rfl | rfl | rfl | rfl | rfl | rfl
    · exact S.ts _ q779
    · exact S.ts _ q771
    · exact va_Nw.use rfl (S.2.1.W q772 rfl)
    · exact S.ts _ q773
    · exact S.ts _ q310
    · exact S.ts _ q774
    · exact S.ts _ q775
    · exact S.ts _ q776
    · exact S.ts _ q777
    · exact absurd hno (by decide +kernel)
    · exact absurd hno (by decide +kernel)
    · exact S.ts _ q291
    · exact S.ts _ q290
    · exact S.ts _ q778
theorem g_thr_J23 {p : Program} {l : Launch} {e : Env} {R : Room} {s : State} {m : MethodId} {args : Array Value} {below : List Frame} {meth : Method} {c : Code} {H : Heap} {locs : List Loc} {cells slots : Nat} {cc : ByteArray} {pc nL : Nat} {ls : Array Slot} {rest : List Value} {E : Ev} {G : gh} {mc ms : Nat} {post : Option Value → gh → Prop} {px : String → gh → Prop} (hl0 : l.stackTraces = false) (S : gS E p m meth c cc nL s args RX1) (hnL : ls.size = nL) (hno : ∀ x ∈ c.exceptionTable.toList, covers x (pc + 7) = false)
    (d0 : decode cc pc = .ok (.new 152, 3)) (d3 : decode cc (pc + 3) = .ok (.dup, 1)) (d4 : decode cc (pc + 4) = .ok (.invokespecial 181, 3)) (d7 : decode cc (pc + 7) = .ok (.athrow, 1)) (hG : gh_W E G H) (hS : va_S (ev_A E) s.heap H locs)
    (hRf : 5 < R.frames) (hRl : (rest.map fun v => v.category).sum + 81 ≤ R.locals) (hRc : cells + 1 ≤ R.cells) (hRs : slots + 6 ≤ R.slots) (hc : cells + 1 ≤ mc) (hs : slots + 6 ≤ ms) (hp : px "java/lang/UnsupportedOperationException" G) :
    W p l e R s m args below meth c H locs cells slots (vx_MQ below (gQ E post) (gX E px) args s mc ms (ev_A E)) (F0 m pc ls rest) :=
  vx_throw0 (names := ["java/lang/RuntimeException", "java/lang/Exception"]) (cls := "java/lang/UnsupportedOperationException") S.1.1 S.1.2.1 hl0 S.1.2.2.2.1 (by decide +kernel) (by decide +kernel) (S.ts _ q770) (S.ts _ q62) (ex_J23 S) (by decide +kernel) S.2.1.2.2.2.1.1 S.2.1.2.2.2.1.2 hS (hnL.trans S.1.2.2.1.symm) d0 d3 d4 d7 hno hRf hRl hRc hRs S.2.2
    (fun t _ hz hq => ⟨⟨G, hp, hG.kept (fun q _ h => hq q h)⟩, Nat.le_trans hS.1 hz, fun q h1 h2 => (hq q (Nat.lt_of_lt_of_le h1 hS.1)).trans (hS.2.1 q h1 h2)⟩) hS.2.2 hc hs
theorem ex_P_J19 {p : Program} {s : State} {m : MethodId} {args : Array Value} {meth : Method} {c : Code} {cc : ByteArray} {nL : Nat} {E : Ev} {own : String} (S : gS E p m meth c cc nL s args own) : ∀ w ∈ Bundle.passAtoms "java/util/NoSuchElementException" "java/lang/RuntimeException" 1 Bundle.five, vx_no w = true → w.before args s = true := by
  intro w hw hno
  simp only [Bundle.passAtoms, List.mem_cons, List.not_mem_nil, or_false] at hw
  rcases hw with rfl | rfl | rfl | rfl | rfl
  · exact S.ts _ q318
  · exact S.ts _ q319
  · exact S.ts _ q320
  · exact S.ts _ q321
  · exact va_Nw.use rfl (S.2.1.W q273 rfl)
theorem ex_J19 {p : Program} {s : State} {m : MethodId} {args : Array Value} {meth : Method} {c : Code} {cc : ByteArray} {nL : Nat} {E : Ev} (S : gS E p m meth c cc nL s args RX1) : ∀ w ∈ vx_at0 RX1 21 "java/util/NoSuchElementException" ["java/lang/RuntimeException", "java/lang/Exception"], w.before args s = true := by
  intro w hw
  obtain ⟨hw, hno⟩ := List.mem_filter.mp hw
  unfold Bundle.ownAtoms0 Bundle.chain0Atoms Bundle.chain0Atoms Bundle.chain0Atoms at hw
  rcases List.mem_append.mp hw with hw | hw
  · rcases List.mem_append.mp hw with hw | hw
    · exact ex_T S w hw hno
    · rcases List.mem_append.mp hw with hw | hw
      · exact ex_P_J19 S w hw hno
      · rcases List.mem_append.mp hw with hw | hw
        · exact ex_P1 S w hw hno
        · exact ex_P2 S w hw hno
  · simp only [List.mem_cons, List.not_mem_nil, or_false] at hw
    rcases hw with rfl | rfl | rfl | rfl | rfl | rfl | rfl | rfl | rfl | rfl | rfl | rfl | rfl | rfl
    · exact S.ts _ q879
    · exact S.ts _ q271
    · exact va_Nw.use rfl (S.2.1.W q272 rfl)
    · exact S.ts _ q279
    · exact S.ts _ q280
    · exact S.ts _ q281
    · exact S.ts _ q283
    · exact S.ts _ q285
    · exact S.ts _ q287
    · exact absurd hno (by decide +kernel)
    · exact absurd hno (by decide +kernel)
    · exact S.ts _ q291
    · exact S.ts _ q290
    · exact S.ts _ q289
theorem g_thr_J19 {p : Program} {l : Launch} {e : Env} {R : Room} {s : State} {m : MethodId} {args : Array Value} {below : List Frame} {meth : Method} {c : Code} {H : Heap} {locs : List Loc} {cells slots : Nat} {cc : ByteArray} {pc nL : Nat} {ls : Array Slot} {rest : List Value} {E : Ev} {G : gh} {mc ms : Nat} {post : Option Value → gh → Prop} {px : String → gh → Prop} (hl0 : l.stackTraces = false) (S : gS E p m meth c cc nL s args RX1) (hnL : ls.size = nL) (hno : ∀ x ∈ c.exceptionTable.toList, covers x (pc + 7) = false)
    (d0 : decode cc pc = .ok (.new 19, 3)) (d3 : decode cc (pc + 3) = .ok (.dup, 1)) (d4 : decode cc (pc + 4) = .ok (.invokespecial 21, 3)) (d7 : decode cc (pc + 7) = .ok (.athrow, 1)) (hG : gh_W E G H) (hS : va_S (ev_A E) s.heap H locs)
    (hRf : 5 < R.frames) (hRl : (rest.map fun v => v.category).sum + 81 ≤ R.locals) (hRc : cells + 1 ≤ R.cells) (hRs : slots + 6 ≤ R.slots) (hc : cells + 1 ≤ mc) (hs : slots + 6 ≤ ms) (hp : px "java/util/NoSuchElementException" G) :
    W p l e R s m args below meth c H locs cells slots (vx_MQ below (gQ E post) (gX E px) args s mc ms (ev_A E)) (F0 m pc ls rest) :=
  vx_throw0 (names := ["java/lang/RuntimeException", "java/lang/Exception"]) (cls := "java/util/NoSuchElementException") S.1.1 S.1.2.1 hl0 S.1.2.2.2.1 (by decide +kernel) (by decide +kernel) (S.ts _ q878) (S.ts _ q54) (ex_J19 S) (by decide +kernel) S.2.1.2.2.2.1.1 S.2.1.2.2.2.1.2 hS (hnL.trans S.1.2.2.1.symm) d0 d3 d4 d7 hno hRf hRl hRc hRs S.2.2
    (fun t _ hz hq => ⟨⟨G, hp, hG.kept (fun q _ h => hq q h)⟩, Nat.le_trans hS.1 hz, fun q h1 h2 => (hq q (Nat.lt_of_lt_of_le h1 hS.1)).trans (hS.2.1 q h1 h2)⟩) hS.2.2 hc hs
theorem ex_P_J24 {p : Program} {s : State} {m : MethodId} {args : Array Value} {meth : Method} {c : Code} {cc : ByteArray} {nL : Nat} {E : Ev} {own : String} (S : gS E p m meth c cc nL s args own) : ∀ w ∈ Bundle.passAtoms "java/lang/ArithmeticException" "java/lang/RuntimeException" 1 Bundle.five, vx_no w = true → w.before args s = true := by
  intro w hw hno
  simp only [Bundle.passAtoms, List.mem_cons, List.not_mem_nil, or_false] at hw
  rcases hw with rfl | rfl | rfl | rfl | rfl
  · exact S.ts _ q964
  · exact S.ts _ q965
  · exact S.ts _ q966
  · exact S.ts _ q321
  · exact va_Nw.use rfl (S.2.1.W q273 rfl)
theorem ex_J24 {p : Program} {s : State} {m : MethodId} {args : Array Value} {meth : Method} {c : Code} {cc : ByteArray} {nL : Nat} {E : Ev} (S : gS E p m meth c cc nL s args RX1) : ∀ w ∈ vx_at0 RX1 276 "java/lang/ArithmeticException" ["java/lang/RuntimeException", "java/lang/Exception"], w.before args s = true := by
  intro w hw
  obtain ⟨hw, hno⟩ := List.mem_filter.mp hw
  unfold Bundle.ownAtoms0 Bundle.chain0Atoms Bundle.chain0Atoms Bundle.chain0Atoms at hw
  rcases List.mem_append.mp hw with hw | hw
  · rcases List.mem_append.mp hw with hw | hw
    · exact ex_T S w hw hno
    · rcases List.mem_append.mp hw with hw | hw
      · exact ex_P_J24 S w hw hno
      · rcases List.mem_append.mp hw with hw | hw
        · exact ex_P1 S w hw hno
        · exact ex_P2 S w hw hno
  · simp only [List.mem_cons, List.not_mem_nil, or_false] at hw
    rcases hw with rfl | rfl | rfl | rfl | rfl | rfl | rfl | rfl | rfl | rfl | rfl | rfl | rfl | rfl
    · exact S.ts _ q963
    · exact S.ts _ q945
    · exact va_Nw.use rfl (S.2.1.W q956 rfl)
    · exact S.ts _ q957
    · exact S.ts _ q305
    · exact S.ts _ q951
    · exact S.ts _ q952
    · exact S.ts _ q954
    · exact S.ts _ q950
    · exact absurd hno (by decide +kernel)
    · exact absurd hno (by decide +kernel)
    · exact S.ts _ q291
    · exact S.ts _ q290
    · exact S.ts _ q949
theorem g_thr_J24 {p : Program} {l : Launch} {e : Env} {R : Room} {s : State} {m : MethodId} {args : Array Value} {below : List Frame} {meth : Method} {c : Code} {H : Heap} {locs : List Loc} {cells slots : Nat} {cc : ByteArray} {pc nL : Nat} {ls : Array Slot} {rest : List Value} {E : Ev} {G : gh} {mc ms : Nat} {post : Option Value → gh → Prop} {px : String → gh → Prop} (hl0 : l.stackTraces = false) (S : gS E p m meth c cc nL s args RX1) (hnL : ls.size = nL) (hno : ∀ x ∈ c.exceptionTable.toList, covers x (pc + 7) = false)
    (d0 : decode cc pc = .ok (.new 274, 3)) (d3 : decode cc (pc + 3) = .ok (.dup, 1)) (d4 : decode cc (pc + 4) = .ok (.invokespecial 276, 3)) (d7 : decode cc (pc + 7) = .ok (.athrow, 1)) (hG : gh_W E G H) (hS : va_S (ev_A E) s.heap H locs)
    (hRf : 5 < R.frames) (hRl : (rest.map fun v => v.category).sum + 81 ≤ R.locals) (hRc : cells + 1 ≤ R.cells) (hRs : slots + 6 ≤ R.slots) (hc : cells + 1 ≤ mc) (hs : slots + 6 ≤ ms) (hp : px "java/lang/ArithmeticException" G) :
    W p l e R s m args below meth c H locs cells slots (vx_MQ below (gQ E post) (gX E px) args s mc ms (ev_A E)) (F0 m pc ls rest) :=
  vx_throw0 (names := ["java/lang/RuntimeException", "java/lang/Exception"]) (cls := "java/lang/ArithmeticException") S.1.1 S.1.2.1 hl0 S.1.2.2.2.1 (by decide +kernel) (by decide +kernel) (S.ts _ q962) (S.ts _ q65) (ex_J24 S) (by decide +kernel) S.2.1.2.2.2.1.1 S.2.1.2.2.2.1.2 hS (hnL.trans S.1.2.2.1.symm) d0 d3 d4 d7 hno hRf hRl hRc hRs S.2.2
    (fun t _ hz hq => ⟨⟨G, hp, hG.kept (fun q _ h => hq q h)⟩, Nat.le_trans hS.1 hz, fun q h1 h2 => (hq q (Nat.lt_of_lt_of_le h1 hS.1)).trans (hS.2.1 q h1 h2)⟩) hS.2.2 hc hs
set_option maxHeartbeats 4000000 in
set_option maxRecDepth 100000 in
theorem metX1_requireIn (l : Launch) (hl0 : l.stackTraces = false) {E : Ev} {G : gh} (x lo hi : Int32)  : vx_Met l yX1_requireIn (ws_ yX1_requireIn cX1_requireIn 3 none) ({ frames := 6, cells := 1, slots := 6, locals := 120 }) (gP E G [.int x, .int lo, .int hi]) (gQ E (fun v G' => v = none ∧ G = G' ∧ lo ≤ x ∧ x ≤ hi)) (gX E (fun C G' => C = "java/lang/IllegalArgumentException" ∧ G = G' ∧ ¬ (lo ≤ x ∧ x ≤ hi))) 1 6 (ev_A E) := by
  refine gMetX RX1 (by decide) rfl (Nat.le_of_ble_eq_true rfl) ?_
  intro p e s m below meth c ls hx hb S hr hno hl hG hS
  have hl : lv_has ls 3 [(0, .int x), (1, .int lo), (2, .int hi)] := hl
  refine lv_iload_n hx hb dX1_requireIn_0 rfl (lv_at hl 0 rfl) ?_
  refine lv_iload_n hx hb dX1_requireIn_1 rfl (lv_at hl 1 rfl) ?_
  refine lv_icmp_lt (tgt := 10) hx hb dX1_requireIn_2 (by decide) (fun h2 => ?_) (fun h2 => ?_)
  · exact g_thr_J9 hl0 S hl.1 (fun x h => (hno x h).elim) dX1_requireIn_10 dX1_requireIn_13 dX1_requireIn_14 dX1_requireIn_17 hG hS (Nat.le_of_ble_eq_true rfl) (Nat.le_of_ble_eq_true rfl) (Nat.le_of_ble_eq_true rfl) (Nat.le_of_ble_eq_true rfl) (by first | exact Nat.le_refl _ | omega) (by first | exact Nat.le_refl _ | omega) ⟨rfl, rfl, fun q => absurd h2 (Int32.not_lt.mpr q.1)⟩
  · refine lv_iload_n hx hb dX1_requireIn_5 rfl (lv_at hl 0 rfl) ?_
    refine lv_iload_n hx hb dX1_requireIn_6 rfl (lv_at hl 2 rfl) ?_
    refine lv_icmp_le (tgt := 18) hx hb dX1_requireIn_7 (by decide) (fun h7 => ?_) (fun h7 => ?_)
    · refine vx_ret ?_
      exact g_vret S hr dX1_requireIn_18 hG hS (by first | exact Nat.le_refl _ | omega) (by first | exact Nat.le_refl _ | omega) ⟨rfl, rfl, Int32.not_lt.mp h2, h7⟩
    · exact g_thr_J9 hl0 S hl.1 (fun x h => (hno x h).elim) dX1_requireIn_10 dX1_requireIn_13 dX1_requireIn_14 dX1_requireIn_17 hG hS (Nat.le_of_ble_eq_true rfl) (Nat.le_of_ble_eq_true rfl) (Nat.le_of_ble_eq_true rfl) (Nat.le_of_ble_eq_true rfl) (by first | exact Nat.le_refl _ | omega) (by first | exact Nat.le_refl _ | omega) ⟨rfl, rfl, fun q => absurd q.2 h7⟩
set_option maxHeartbeats 4000000 in
set_option maxRecDepth 100000 in
theorem metX1_requireIndex (l : Launch) (hl0 : l.stackTraces = false) {E : Ev} {G : gh} (x n : Int32)  : vx_Met l yX1_requireIndex (ws_ yX1_requireIndex cX1_requireIndex 2 none) ({ frames := 6, cells := 1, slots := 6, locals := 120 }) (gP E G [.int x, .int n]) (gQ E (fun v G' => v = none ∧ G = G' ∧ 0 ≤ x ∧ x < n)) (gX E (fun C G' => C = "java/lang/IndexOutOfBoundsException" ∧ G = G' ∧ ¬ (0 ≤ x ∧ x < n))) 1 6 (ev_A E) := by
  refine gMetX RX1 (by decide) rfl (Nat.le_of_ble_eq_true rfl) ?_
  intro p e s m below meth c ls hx hb S hr hno hl hG hS
  have hl : lv_has ls 2 [(0, .int x), (1, .int n)] := hl
  refine lv_iload_n hx hb dX1_requireIndex_0 rfl (lv_at hl 0 rfl) ?_
  refine lv_if_lt (tgt := 9) hx hb dX1_requireIndex_1 (by decide) (fun h1 => ?_) (fun h1 => ?_)
  · exact g_thr_J13 hl0 S hl.1 (fun x h => (hno x h).elim) dX1_requireIndex_9 dX1_requireIndex_12 dX1_requireIndex_13 dX1_requireIndex_16 hG hS (Nat.le_of_ble_eq_true rfl) (Nat.le_of_ble_eq_true rfl) (Nat.le_of_ble_eq_true rfl) (Nat.le_of_ble_eq_true rfl) (by first | exact Nat.le_refl _ | omega) (by first | exact Nat.le_refl _ | omega) ⟨rfl, rfl, fun q => absurd h1 (Int32.not_lt.mpr q.1)⟩
  · refine lv_iload_n hx hb dX1_requireIndex_4 rfl (lv_at hl 0 rfl) ?_
    refine lv_iload_n hx hb dX1_requireIndex_5 rfl (lv_at hl 1 rfl) ?_
    refine lv_icmp_lt (tgt := 17) hx hb dX1_requireIndex_6 (by decide) (fun h6 => ?_) (fun h6 => ?_)
    · refine vx_ret ?_
      exact g_vret S hr dX1_requireIndex_17 hG hS (by first | exact Nat.le_refl _ | omega) (by first | exact Nat.le_refl _ | omega) ⟨rfl, rfl, Int32.not_lt.mp h1, h6⟩
    · exact g_thr_J13 hl0 S hl.1 (fun x h => (hno x h).elim) dX1_requireIndex_9 dX1_requireIndex_12 dX1_requireIndex_13 dX1_requireIndex_16 hG hS (Nat.le_of_ble_eq_true rfl) (Nat.le_of_ble_eq_true rfl) (Nat.le_of_ble_eq_true rfl) (Nat.le_of_ble_eq_true rfl) (by first | exact Nat.le_refl _ | omega) (by first | exact Nat.le_refl _ | omega) ⟨rfl, rfl, fun q => absurd q.2 h6⟩
set_option maxHeartbeats 4000000 in
set_option maxRecDepth 100000 in
theorem metX1_requireState (l : Launch) (hl0 : l.stackTraces = false) {E : Ev} {G : gh} (x : Int32)  : vx_Met l yX1_requireState (ws_ yX1_requireState cX1_requireState 1 none) ({ frames := 6, cells := 1, slots := 6, locals := 120 }) (gP E G [.int x]) (gQ E (fun v G' => v = none ∧ G = G' ∧ ¬ x = 0)) (gX E (fun C G' => C = "java/lang/IllegalStateException" ∧ G = G' ∧ x = 0)) 1 6 (ev_A E) := by
  refine gMetX RX1 (by decide) rfl (Nat.le_of_ble_eq_true rfl) ?_
  intro p e s m below meth c ls hx hb S hr hno hl hG hS
  have hl : lv_has ls 1 [(0, .int x)] := hl
  refine lv_iload_n hx hb dX1_requireState_0 rfl (lv_at hl 0 rfl) ?_
  refine lv_if_ne (tgt := 12) hx hb dX1_requireState_1 (by decide) (fun h1 => ?_) (fun h1 => ?_)
  · refine vx_ret ?_
    exact g_vret S hr dX1_requireState_12 hG hS (by first | exact Nat.le_refl _ | omega) (by first | exact Nat.le_refl _ | omega) ⟨rfl, rfl, h1⟩
  · exact g_thr_J10 hl0 S hl.1 (fun x h => (hno x h).elim) dX1_requireState_4 dX1_requireState_7 dX1_requireState_8 dX1_requireState_11 hG hS (Nat.le_of_ble_eq_true rfl) (Nat.le_of_ble_eq_true rfl) (Nat.le_of_ble_eq_true rfl) (Nat.le_of_ble_eq_true rfl) (by first | exact Nat.le_refl _ | omega) (by first | exact Nat.le_refl _ | omega) ⟨rfl, rfl, h1⟩
set_option maxHeartbeats 4000000 in
set_option maxRecDepth 100000 in
theorem metX1_requireElement (l : Launch) (hl0 : l.stackTraces = false) {E : Ev} {G : gh} (x : Int32)  : vx_Met l yX1_requireElement (ws_ yX1_requireElement cX1_requireElement 1 none) ({ frames := 6, cells := 1, slots := 6, locals := 120 }) (gP E G [.int x]) (gQ E (fun v G' => v = none ∧ G = G' ∧ ¬ x = 0)) (gX E (fun C G' => C = "java/util/NoSuchElementException" ∧ G = G' ∧ x = 0)) 1 6 (ev_A E) := by
  refine gMetX RX1 (by decide) rfl (Nat.le_of_ble_eq_true rfl) ?_
  intro p e s m below meth c ls hx hb S hr hno hl hG hS
  have hl : lv_has ls 1 [(0, .int x)] := hl
  refine lv_iload_n hx hb dX1_requireElement_0 rfl (lv_at hl 0 rfl) ?_
  refine lv_if_ne (tgt := 12) hx hb dX1_requireElement_1 (by decide) (fun h1 => ?_) (fun h1 => ?_)
  · refine vx_ret ?_
    exact g_vret S hr dX1_requireElement_12 hG hS (by first | exact Nat.le_refl _ | omega) (by first | exact Nat.le_refl _ | omega) ⟨rfl, rfl, h1⟩
  · exact g_thr_J19 hl0 S hl.1 (fun x h => (hno x h).elim) dX1_requireElement_4 dX1_requireElement_7 dX1_requireElement_8 dX1_requireElement_11 hG hS (Nat.le_of_ble_eq_true rfl) (Nat.le_of_ble_eq_true rfl) (Nat.le_of_ble_eq_true rfl) (Nat.le_of_ble_eq_true rfl) (by first | exact Nat.le_refl _ | omega) (by first | exact Nat.le_refl _ | omega) ⟨rfl, rfl, h1⟩
