/-! printed by tools/gx.py: a name for every method instance and every cut of its code -/
set_option maxRecDepth 100000
/-- MarkHouse.feed(IIIII)I at (156,) -/
def x_feed (d : Nat) (a1 a2 a3 a4 a5 : Int) (σ : mM) (Q : mA) : Prop := E1 knS d 7 (jmp 7 0) (entL 7 [(2, 156), (0, a1), (0, a2), (0, a3), (0, a4), (0, a5)]) [] σ Q zno
def x_feed_17 (d : Nat) (l1 l2 l3 l4 l5 l6 : Int) (σ : mM) (Q : mA) : Prop := E1 knS d 7 (jmp 7 17) [(2, 156), (0, l1), (0, l2), (0, l3), (0, l4), (0, l5), (0, l6)] [] σ Q zno
/-- MarkHouse.end(I)I at (156,) -/
def x_end (d : Nat) (a1 : Int) (σ : mM) (Q : mA) : Prop := E1 knS d 8 (jmp 8 0) (entL 8 [(2, 156), (0, a1)]) [] σ Q zno
/-- MarkHouse.out(I)I at (156,) -/
def x_out (d : Nat) (a1 : Int) (σ : mM) (Q : mA) : Prop := E1 knS d 9 (jmp 9 0) (entL 9 [(2, 156), (0, a1)]) [] σ Q zno
/-- MarkHouse.fault(I)I at (156,) -/
def x_fault (d : Nat) (a1 : Int) (σ : mM) (Q : mA) : Prop := E1 knS d 10 (jmp 10 0) (entL 10 [(2, 156), (0, a1)]) [] σ Q zno
/-- MarkHouse.tell()I at (156,) -/
def x_tell (d : Nat) (σ : mM) (Q : mA) : Prop := E1 knS d 11 (jmp 11 0) (entL 11 [(2, 156)]) [] σ Q zno
/-- MarkHouse.size(II)I at (156,) -/
def x_size (d : Nat) (a1 a2 : Int) (σ : mM) (Q : mA) : Prop := E1 knS d 12 (jmp 12 0) (entL 12 [(2, 156), (0, a1), (0, a2)]) [] σ Q zno
/-- MarkHouse.order(IIII)I at (156,) -/
def x_order (d : Nat) (a1 a2 a3 a4 : Int) (σ : mM) (Q : mA) : Prop := E1 knS d 14 (jmp 14 0) (entL 14 [(2, 156), (0, a1), (0, a2), (0, a3), (0, a4)]) [] σ Q zno
/-- MarkHouse.mark(III)I at (156,) -/
def x_mark (d : Nat) (a1 a2 a3 : Int) (σ : mM) (Q : mA) : Prop := E1 knS d 16 (jmp 16 0) (entL 16 [(2, 156), (0, a1), (0, a2), (0, a3)]) [] σ Q zno
/-- MarkHouse.give(I)I at (156,) -/
def x_give (d : Nat) (a1 : Int) (σ : mM) (Q : mA) : Prop := E1 knS d 17 (jmp 17 0) (entL 17 [(2, 156), (0, a1)]) [] σ Q zno
/-- MarkHouse.file(I)I at (156,) -/
def x_file (d : Nat) (a1 : Int) (σ : mM) (Q : mA) : Prop := E1 knS d 19 (jmp 19 0) (entL 19 [(2, 156), (0, a1)]) [] σ Q zno
/-- MarkHouse.effective(II)I at (156,) -/
def x_effective (d : Nat) (a1 a2 : Int) (σ : mM) (Q : mA) : Prop := E1 knS d 20 (jmp 20 0) (entL 20 [(2, 156), (0, a1), (0, a2)]) [] σ Q zno
/-- MarkHouse.whence(III)I at (156,) -/
def x_whence (d : Nat) (a1 a2 a3 : Int) (σ : mM) (Q : mA) : Prop := E1 knS d 22 (jmp 22 0) (entL 22 [(2, 156), (0, a1), (0, a2), (0, a3)]) [] σ Q zno
/-- MarkHouse.ask(IIII)I at (156,) -/
def x_ask (d : Nat) (a1 a2 a3 a4 : Int) (σ : mM) (Q : mA) : Prop := E1 knS d 23 (jmp 23 0) (entL 23 [(2, 156), (0, a1), (0, a2), (0, a3), (0, a4)]) [] σ Q zno
def x_ask_53 (d : Nat) (l2 l3 l4 k0 k1 : Int) (σ : mM) (Q : mA) : Prop := E1 knS d 23 (jmp 23 53) [(2, 156), (3, 0), (0, l2), (0, l3), (0, l4), (3, 0), (3, 0)] [(0, k0), (0, k1)] σ Q zno
/-- MarkHouse.markOf(II)I at (156,) -/
def x_markOf (d : Nat) (a1 a2 : Int) (σ : mM) (Q : mA) : Prop := E1 knS d 24 (jmp 24 0) (entL 24 [(2, 156), (0, a1), (0, a2)]) [] σ Q zno
/-- MarkHouse.rounds()I at (156,) -/
def x_rounds (d : Nat) (σ : mM) (Q : mA) : Prop := E1 knS d 25 (jmp 25 0) (entL 25 [(2, 156)]) [] σ Q zno
/-- MarkHouse.flow(I)I at (156,) -/
def x_flow (d : Nat) (a1 : Int) (σ : mM) (Q : mA) : Prop := E1 knS d 26 (jmp 26 0) (entL 26 [(2, 156), (0, a1)]) [] σ Q zno
/-- MarkHouse.error(II)I at (156,) -/
def x_error (d : Nat) (a1 a2 : Int) (σ : mM) (Q : mA) : Prop := E1 knS d 27 (jmp 27 0) (entL 27 [(2, 156), (0, a1), (0, a2)]) [] σ Q zno
/-- MarkHouse.way(I)I at (156,) -/
def x_way (d : Nat) (a1 : Int) (σ : mM) (Q : mA) : Prop := E1 knS d 28 (jmp 28 0) (entL 28 [(2, 156), (0, a1)]) [] σ Q zno
/-- MarkHouse.step(I)I at (156,) -/
def x_step (d : Nat) (a1 : Int) (σ : mM) (Q : mA) : Prop := E1 knS d 29 (jmp 29 0) (entL 29 [(2, 156), (0, a1)]) [] σ Q zno
/-- MarkHouse.state(III)I at (156,) -/
def x_state (d : Nat) (a1 a2 a3 : Int) (σ : mM) (Q : mA) : Prop := E1 knS d 30 (jmp 30 0) (entL 30 [(2, 156), (0, a1), (0, a2), (0, a3)]) [] σ Q zno
/-- MarkHouse.find(I)I at (156,) -/
def x_find (d : Nat) (a1 : Int) (σ : mM) (Q : mA) : Prop := E1 knS d 31 (jmp 31 0) (entL 31 [(2, 156), (0, a1)]) [] σ Q zno
/-- MarkHouse.plain(I)Z at (156,) -/
def x_plain (d : Nat) (a1 : Int) (σ : mM) (Q : mA) : Prop := E1 knS d 32 (jmp 32 0) (entL 32 [(2, 156), (0, a1)]) [] σ Q zno
/-- MarkHouse.weave()I at (156,) -/
def x_weave (d : Nat) (σ : mM) (Q : mA) : Prop := E1 knS d 33 (jmp 33 0) (entL 33 [(2, 156)]) [] σ Q zno
/-- MarkHouse.code(IZ)I at (156,) -/
def x_code (d : Nat) (a1 a2 : Int) (σ : mM) (Q : mA) : Prop := E1 knS d 34 (jmp 34 0) (entL 34 [(2, 156), (0, a1), (0, a2)]) [] σ Q zno
/-- MarkHouse.argument(II)Z at (156,) -/
def x_argument (d : Nat) (a1 a2 : Int) (σ : mM) (Q : mA) : Prop := E1 knS d 35 (jmp 35 0) (entL 35 [(2, 156), (0, a1), (0, a2)]) [] σ Q zno
/-- MarkHouse.input(I)I at (156,) -/
def x_input (d : Nat) (a1 : Int) (σ : mM) (Q : mA) : Prop := E1 knS d 36 (jmp 36 0) (entL 36 [(2, 156), (0, a1)]) [] σ Q zno
/-- MarkHouse.run(I)I at (156,) -/
def x_run (d : Nat) (a1 : Int) (σ : mM) (Q : mA) : Prop := E1 knS d 37 (jmp 37 0) (entL 37 [(2, 156), (0, a1)]) [] σ Q zno
/-- MarkHouse.truth(I)I at (156,) -/
def x_truth (d : Nat) (a1 : Int) (σ : mM) (Q : mA) : Prop := E1 knS d 38 (jmp 38 0) (entL 38 [(2, 156), (0, a1)]) [] σ Q zno
/-- MarkHouse.wire()I at (156,) -/
def x_wire (d : Nat) (σ : mM) (Q : mA) : Prop := E1 knS d 39 (jmp 39 0) (entL 39 [(2, 156)]) [] σ Q zno
/-- MarkHouse.wired(I)I at (156,) -/
def x_wired (d : Nat) (a1 : Int) (σ : mM) (Q : mA) : Prop := E1 knS d 40 (jmp 40 0) (entL 40 [(2, 156), (0, a1)]) [] σ Q zno
/-- MarkHouse.compile()I at (156,) -/
def x_compile (d : Nat) (σ : mM) (Q : mA) (B : mB) : Prop := E knS d 41 (jmp 41 0) (entL 41 [(2, 156)]) [] σ Q B
def x_compile_78 (d : Nat) (l1 : Int) (σ : mM) (Q : mA) (B : mB) : Prop := E knS d 41 (jmp 41 78) [(2, 156), (0, l1)] [] σ Q B
/-- MarkHouse.begin(IZ)V at (156,) -/
def x_begin (d : Nat) (a1 a2 : Int) (σ : mM) (Q : mA) (B : mB) : Prop := E knS d 42 (jmp 42 0) (entL 42 [(2, 156), (0, a1), (0, a2)]) [] σ Q B
/-- MarkHouse.go(I)I at (156,) -/
def x_go (d : Nat) (a1 : Int) (σ : mM) (Q : mA) (B : mB) : Prop := E knS d 43 (jmp 43 0) (entL 43 [(2, 156), (0, a1)]) [] σ Q B
/-- MarkHouseModel.thrown()I at (279,) -/
def m_thrown (d : Nat) (σ : mM) (Q : mA) : Prop := E1 knS d 271 (jmp 271 0) (entL 271 [(2, 279)]) [] σ Q zno
/-- MarkHouseModel.feed(IIIII)I at (279,) -/
def m_feed (d : Nat) (a1 a2 a3 a4 a5 : Int) (σ : mM) (Q : mA) : Prop := E1 knS d 272 (jmp 272 0) (entL 272 [(2, 279), (0, a1), (0, a2), (0, a3), (0, a4), (0, a5)]) [] σ Q zno
/-- MarkHouseModel.end(I)I at (279,) -/
def m_end (d : Nat) (a1 : Int) (σ : mM) (Q : mA) : Prop := E1 knS d 274 (jmp 274 0) (entL 274 [(2, 279), (0, a1)]) [] σ Q zno
/-- MarkHouseModel.out(I)I at (279,) -/
def m_out (d : Nat) (a1 : Int) (σ : mM) (Q : mA) : Prop := E1 knS d 275 (jmp 275 0) (entL 275 [(2, 279), (0, a1)]) [] σ Q zno
/-- MarkHouseModel.compile()I at (279,) -/
def m_compile (d : Nat) (σ : mM) (Q : mA) : Prop := E1 knS d 276 (jmp 276 0) (entL 276 [(2, 279)]) [] σ Q zno
def m_compile_63 (d : Nat) (l2 : Int) (σ : mM) (Q : mA) : Prop := E1 knS d 276 (jmp 276 63) [(2, 279), (3, 0), (0, l2), (3, 0)] [] σ Q zno
def m_compile_95 (d : Nat) (σ : mM) (Q : mA) : Prop := E1 knS d 276 (jmp 276 95) [(2, 279), (3, 0), (3, 0), (3, 0)] [] σ Q zno
def m_compile_127 (d : Nat) (l2 : Int) (σ : mM) (Q : mA) : Prop := E1 knS d 276 (jmp 276 127) [(2, 279), (3, 0), (0, l2), (3, 0)] [] σ Q zno
def m_compile_137 (d : Nat) (l2 l3 : Int) (σ : mM) (Q : mA) : Prop := E1 knS d 276 (jmp 276 137) [(2, 279), (3, 0), (0, l2), (0, l3)] [] σ Q zno
/-- MarkHouseModel.fault(I)I at (279,) -/
def m_fault1 (d : Nat) (a1 : Int) (σ : mM) (Q : mA) : Prop := E1 knS d 339 (jmp 339 0) (entL 339 [(2, 279), (0, a1)]) [] σ Q zno
/-- MarkHouseModel.effective(II)I at (279,) -/
def m_effective (d : Nat) (a1 a2 : Int) (σ : mM) (Q : mA) : Prop := E1 knS d 340 (jmp 340 0) (entL 340 [(2, 279), (0, a1), (0, a2)]) [] σ Q zno
/-- MarkHouseModel.whence(III)I at (279,) -/
def m_whence (d : Nat) (a1 a2 a3 : Int) (σ : mM) (Q : mA) : Prop := E1 knS d 352 (jmp 352 0) (entL 352 [(2, 279), (0, a1), (0, a2), (0, a3)]) [] σ Q zno
def m_whence_97 (d : Nat) (l2 l4 l5 : Int) (σ : mM) (Q : mA) : Prop := E1 knS d 352 (jmp 352 97) [(2, 279), (3, 0), (0, l2), (3, 0), (0, l4), (0, l5), (3, 0)] [] σ Q zno
/-- MarkHouseModel.ask(IIII)I at (279,) -/
def m_ask (d : Nat) (a1 a2 a3 a4 : Int) (σ : mM) (Q : mA) : Prop := E1 knS d 357 (jmp 357 0) (entL 357 [(2, 279), (0, a1), (0, a2), (0, a3), (0, a4)]) [] σ Q zno
def m_ask_64 (d : Nat) (l2 l3 l4 k0 k1 : Int) (σ : mM) (Q : mA) : Prop := E1 knS d 357 (jmp 357 64) [(2, 279), (3, 0), (0, l2), (0, l3), (0, l4), (3, 0)] [(0, k0), (0, k1)] σ Q zno
def m_ask_190 (d : Nat) (l5 : Int) (σ : mM) (Q : mA) : Prop := E1 knS d 357 (jmp 357 190) [(2, 279), (3, 0), (3, 0), (3, 0), (3, 0), (0, l5)] [] σ Q zno
/-- MarkHouseModel.mark(III)I at (279,) -/
def m_mark (d : Nat) (a1 a2 a3 : Int) (σ : mM) (Q : mA) : Prop := E1 knS d 361 (jmp 361 0) (entL 361 [(2, 279), (0, a1), (0, a2), (0, a3)]) [] σ Q zno
/-- MarkHouseModel.size(II)I at (279,) -/
def m_size (d : Nat) (a1 a2 : Int) (σ : mM) (Q : mA) : Prop := E1 knS d 362 (jmp 362 0) (entL 362 [(2, 279), (0, a1), (0, a2)]) [] σ Q zno
/-- MarkHouseModel.order(IIII)I at (279,) -/
def m_order (d : Nat) (a1 a2 a3 a4 : Int) (σ : mM) (Q : mA) : Prop := E1 knS d 365 (jmp 365 0) (entL 365 [(2, 279), (0, a1), (0, a2), (0, a3), (0, a4)]) [] σ Q zno
/-- MarkHouseModel.give(I)I at (279,) -/
def m_give (d : Nat) (a1 : Int) (σ : mM) (Q : mA) : Prop := E1 knS d 369 (jmp 369 0) (entL 369 [(2, 279), (0, a1)]) [] σ Q zno
def m_give_57 (d : Nat) (l1 l2 l3 : Int) (σ : mM) (Q : mA) : Prop := E1 knS d 369 (jmp 369 57) [(2, 279), (0, l1), (0, l2), (0, l3), (3, 0), (3, 0), (3, 0), (3, 0), (3, 0)] [] σ Q zno
def m_give_208 (d : Nat) (l1 l2 : Int) (σ : mM) (Q : mA) : Prop := E1 knS d 369 (jmp 369 208) [(2, 279), (0, l1), (0, l2), (3, 0), (3, 0), (3, 0), (3, 0), (3, 0), (3, 0)] [] σ Q zno
def m_give_113 (d : Nat) (l1 l2 l3 l4 k0 : Int) (σ : mM) (Q : mA) : Prop := E1 knS d 369 (jmp 369 113) [(2, 279), (0, l1), (0, l2), (0, l3), (1, l4), (3, 0), (3, 0), (3, 0), (3, 0)] [(0, k0)] σ Q zno
def m_give_244 (d : Nat) (l1 l2 l3 : Int) (σ : mM) (Q : mA) : Prop := E1 knS d 369 (jmp 369 244) [(2, 279), (0, l1), (0, l2), (0, l3), (3, 0), (3, 0), (3, 0), (3, 0), (3, 0)] [] σ Q zno
def m_give_165 (d : Nat) (l1 l2 l3 l6 l7 l8 : Int) (σ : mM) (Q : mA) : Prop := E1 knS d 369 (jmp 369 165) [(2, 279), (0, l1), (0, l2), (0, l3), (3, 0), (3, 0), (0, l6), (0, l7), (0, l8)] [] σ Q zno
/-- MarkHouseModel.file(I)I at (279,) -/
def m_file (d : Nat) (a1 : Int) (σ : mM) (Q : mA) : Prop := E1 knS d 375 (jmp 375 0) (entL 375 [(2, 279), (0, a1)]) [] σ Q zno
def m_file_32 (d : Nat) (l1 l2 : Int) (σ : mM) (Q : mA) : Prop := E1 knS d 375 (jmp 375 32) [(2, 279), (0, l1), (0, l2), (3, 0), (3, 0), (3, 0), (3, 0)] [] σ Q zno
def m_file_87 (d : Nat) (l1 l2 l3 l4 : Int) (σ : mM) (Q : mA) : Prop := E1 knS d 375 (jmp 375 87) [(2, 279), (0, l1), (0, l2), (0, l3), (0, l4), (3, 0), (3, 0)] [] σ Q zno
def m_file_154 (d : Nat) (l1 l2 l3 l4 l5 l6 : Int) (σ : mM) (Q : mA) : Prop := E1 knS d 375 (jmp 375 154) [(2, 279), (0, l1), (0, l2), (0, l3), (0, l4), (0, l5), (0, l6)] [] σ Q zno
/-- MarkHouseModel.tell()I at (279,) -/
def m_tell (d : Nat) (σ : mM) (Q : mA) : Prop := E1 knS d 378 (jmp 378 0) (entL 378 [(2, 279)]) [] σ Q zno
def m_tell_26 (d : Nat) (l1 : Int) (σ : mM) (Q : mA) : Prop := E1 knS d 378 (jmp 378 26) [(2, 279), (0, l1)] [] σ Q zno
def m_tell_47 (d : Nat) (l1 : Int) (σ : mM) (Q : mA) : Prop := E1 knS d 378 (jmp 378 47) [(2, 279), (0, l1)] [] σ Q zno
def m_tell_68 (d : Nat) (l1 : Int) (σ : mM) (Q : mA) : Prop := E1 knS d 378 (jmp 378 68) [(2, 279), (0, l1)] [] σ Q zno
def m_tell_144 (d : Nat) (l1 : Int) (σ : mM) (Q : mA) : Prop := E1 knS d 378 (jmp 378 144) [(2, 279), (0, l1)] [] σ Q zno
/-- MarkHouseModel.rounds()I at (279,) -/
def m_rounds (d : Nat) (σ : mM) (Q : mA) : Prop := E1 knS d 397 (jmp 397 0) (entL 397 [(2, 279)]) [] σ Q zno
def m_rounds_18 (d : Nat) (l1 l2 : Int) (σ : mM) (Q : mA) : Prop := E1 knS d 397 (jmp 397 18) [(2, 279), (0, l1), (0, l2), (3, 0), (3, 0), (3, 0), (3, 0)] [] σ Q zno
def m_rounds_24 (d : Nat) (l1 l3 : Int) (σ : mM) (Q : mA) : Prop := E1 knS d 397 (jmp 397 24) [(2, 279), (0, l1), (3, 0), (0, l3), (3, 0), (3, 0), (3, 0)] [] σ Q zno
def m_rounds_99 (d : Nat) (l1 l2 l3 : Int) (σ : mM) (Q : mA) : Prop := E1 knS d 397 (jmp 397 99) [(2, 279), (0, l1), (0, l2), (0, l3), (3, 0), (3, 0), (3, 0)] [] σ Q zno
def m_rounds_35 (d : Nat) (l1 l3 l4 : Int) (σ : mM) (Q : mA) : Prop := E1 knS d 397 (jmp 397 35) [(2, 279), (0, l1), (3, 0), (0, l3), (0, l4), (3, 0), (3, 0)] [] σ Q zno
def m_rounds_110 (d : Nat) (l1 l2 l3 l4 : Int) (σ : mM) (Q : mA) : Prop := E1 knS d 397 (jmp 397 110) [(2, 279), (0, l1), (0, l2), (0, l3), (0, l4), (3, 0), (3, 0)] [] σ Q zno
def m_rounds_129 (d : Nat) (l1 l2 l3 l4 l5 l6 : Int) (σ : mM) (Q : mA) : Prop := E1 knS d 397 (jmp 397 129) [(2, 279), (0, l1), (0, l2), (0, l3), (0, l4), (0, l5), (0, l6)] [] σ Q zno
/-- MarkHouseModel.markOf(II)I at (279,) -/
def m_markOf (d : Nat) (a1 a2 : Int) (σ : mM) (Q : mA) : Prop := E1 knS d 398 (jmp 398 0) (entL 398 [(2, 279), (0, a1), (0, a2)]) [] σ Q zno
/-- MarkHouseModel.flow(I)I at (279,) -/
def m_flow (d : Nat) (a1 : Int) (σ : mM) (Q : mA) : Prop := E1 knS d 401 (jmp 401 0) (entL 401 [(2, 279), (0, a1)]) [] σ Q zno
/-- MarkHouseModel.error(II)I at (279,) -/
def m_error (d : Nat) (a1 a2 : Int) (σ : mM) (Q : mA) : Prop := E1 knS d 413 (jmp 413 0) (entL 413 [(2, 279), (0, a1), (0, a2)]) [] σ Q zno
/-- MarkHouseModel.state(III)I at (279,) -/
def m_state (d : Nat) (a1 a2 a3 : Int) (σ : mM) (Q : mA) : Prop := E1 knS d 414 (jmp 414 0) (entL 414 [(2, 279), (0, a1), (0, a2), (0, a3)]) [] σ Q zno
/-- MarkHouseModel.way(I)I at (279,) -/
def m_way (d : Nat) (a1 : Int) (σ : mM) (Q : mA) : Prop := E1 knS d 415 (jmp 415 0) (entL 415 [(2, 279), (0, a1)]) [] σ Q zno
def m_way_75 (d : Nat) (l1 l2 l4 : Int) (σ : mM) (Q : mA) : Prop := E1 knS d 415 (jmp 415 75) [(2, 279), (0, l1), (0, l2), (3, 0), (0, l4), (3, 0), (3, 0), (3, 0)] [] σ Q zno
def m_way_270 (d : Nat) (σ : mM) (Q : mA) : Prop := E1 knS d 415 (jmp 415 270) [(2, 279), (3, 0), (3, 0), (3, 0), (3, 0), (3, 0), (3, 0), (3, 0)] [] σ Q zno
def m_way_141 (d : Nat) (l1 l2 l4 l5 k0 : Int) (σ : mM) (Q : mA) : Prop := E1 knS d 415 (jmp 415 141) [(2, 279), (0, l1), (0, l2), (3, 0), (0, l4), (0, l5), (3, 0), (3, 0)] [(0, k0)] σ Q zno
def m_way_300 (d : Nat) (l4 l5 : Int) (σ : mM) (Q : mA) : Prop := E1 knS d 415 (jmp 415 300) [(2, 279), (3, 0), (3, 0), (3, 0), (0, l4), (0, l5), (3, 0), (3, 0)] [] σ Q zno
def m_way_182 (d : Nat) (l1 l2 l4 l5 l6 k0 : Int) (σ : mM) (Q : mA) : Prop := E1 knS d 415 (jmp 415 182) [(2, 279), (0, l1), (0, l2), (3, 0), (0, l4), (0, l5), (0, l6), (3, 0)] [(0, k0)] σ Q zno
def m_way_332 (d : Nat) (l4 l5 : Int) (σ : mM) (Q : mA) : Prop := E1 knS d 415 (jmp 415 332) [(2, 279), (3, 0), (3, 0), (3, 0), (0, l4), (0, l5), (3, 0), (3, 0)] [] σ Q zno
def m_way_226 (d : Nat) (l1 l2 l4 l5 l7 : Int) (σ : mM) (Q : mA) : Prop := E1 knS d 415 (jmp 415 226) [(2, 279), (0, l1), (0, l2), (3, 0), (0, l4), (0, l5), (3, 0), (0, l7)] [] σ Q zno
/-- MarkHouseModel.step(I)I at (279,) -/
def m_step (d : Nat) (a1 : Int) (σ : mM) (Q : mA) : Prop := E1 knS d 418 (jmp 418 0) (entL 418 [(2, 279), (0, a1)]) [] σ Q zno
/-- MarkHouseModel.find(I)I at (279,) -/
def m_find (d : Nat) (a1 : Int) (σ : mM) (Q : mA) : Prop := E1 knS d 419 (jmp 419 0) (entL 419 [(2, 279), (0, a1)]) [] σ Q zno
def m_find_23 (d : Nat) (l1 l2 l3 : Int) (σ : mM) (Q : mA) : Prop := E1 knS d 419 (jmp 419 23) [(2, 279), (0, l1), (0, l2), (0, l3), (3, 0), (3, 0), (3, 0), (3, 0), (3, 0)] [] σ Q zno
def m_find_89 (d : Nat) (l1 l2 l3 : Int) (σ : mM) (Q : mA) : Prop := E1 knS d 419 (jmp 419 89) [(2, 279), (0, l1), (0, l2), (0, l3), (3, 0), (3, 0), (3, 0), (3, 0), (3, 0)] [] σ Q zno
def m_find_103 (d : Nat) (l1 l2 l3 l4 : Int) (σ : mM) (Q : mA) : Prop := E1 knS d 419 (jmp 419 103) [(2, 279), (0, l1), (0, l2), (0, l3), (0, l4), (3, 0), (3, 0), (3, 0), (3, 0)] [] σ Q zno
def m_find_136 (d : Nat) (l1 l2 l3 l4 l5 : Int) (σ : mM) (Q : mA) : Prop := E1 knS d 419 (jmp 419 136) [(2, 279), (0, l1), (0, l2), (0, l3), (0, l4), (0, l5), (3, 0), (3, 0), (3, 0)] [] σ Q zno
def m_find_157 (d : Nat) (l1 l2 l3 l4 l5 l6 : Int) (σ : mM) (Q : mA) : Prop := E1 knS d 419 (jmp 419 157) [(2, 279), (0, l1), (0, l2), (0, l3), (0, l4), (0, l5), (0, l6), (3, 0), (3, 0)] [] σ Q zno
/-- MarkHouseModel.plain(I)Z at (279,) -/
def m_plain0 (d : Nat) (a1 : Int) (σ : mM) (Q : mA) : Prop := E1 knS d 420 (jmp 420 0) (entL 420 [(2, 279), (0, a1)]) [] σ Q zno
def m_plain0_21 (d : Nat) (l1 l2 : Int) (σ : mM) (Q : mA) : Prop := E1 knS d 420 (jmp 420 21) [(2, 279), (0, l1), (0, l2)] [] σ Q zno
/-- MarkHouseModel.weave()I at (279,) -/
def m_weave (d : Nat) (σ : mM) (Q : mA) : Prop := E1 knS d 421 (jmp 421 0) (entL 421 [(2, 279)]) [] σ Q zno
def m_weave_16 (d : Nat) (l1 : Int) (σ : mM) (Q : mA) : Prop := E1 knS d 421 (jmp 421 16) [(2, 279), (0, l1), (3, 0), (3, 0)] [] σ Q zno
def m_weave_40 (d : Nat) (l1 l2 : Int) (σ : mM) (Q : mA) : Prop := E1 knS d 421 (jmp 421 40) [(2, 279), (0, l1), (0, l2), (3, 0)] [] σ Q zno
def m_weave_55 (d : Nat) (l1 l2 l3 : Int) (σ : mM) (Q : mA) : Prop := E1 knS d 421 (jmp 421 55) [(2, 279), (0, l1), (0, l2), (0, l3)] [] σ Q zno
/-- MarkHouseModel.code(IZ)I at (279,) -/
def m_code (d : Nat) (a1 a2 : Int) (σ : mM) (Q : mA) : Prop := E1 knS d 423 (jmp 423 0) (entL 423 [(2, 279), (0, a1), (0, a2)]) [] σ Q zno
def m_code_33 (d : Nat) (l2 l3 l4 : Int) (σ : mM) (Q : mA) : Prop := E1 knS d 423 (jmp 423 33) [(2, 279), (3, 0), (0, l2), (0, l3), (0, l4), (3, 0), (3, 0), (3, 0)] [] σ Q zno
def m_code_56 (d : Nat) (l2 l3 l4 l5 l6 : Int) (σ : mM) (Q : mA) : Prop := E1 knS d 423 (jmp 423 56) [(2, 279), (3, 0), (0, l2), (0, l3), (0, l4), (0, l5), (0, l6), (3, 0)] [] σ Q zno
def m_code_79 (d : Nat) (l2 l3 l4 l5 l6 l7 : Int) (σ : mM) (Q : mA) : Prop := E1 knS d 423 (jmp 423 79) [(2, 279), (3, 0), (0, l2), (0, l3), (0, l4), (0, l5), (0, l6), (0, l7)] [] σ Q zno
/-- MarkHouseModel.argument(II)Z at (279,) -/
def m_argument (d : Nat) (a1 a2 : Int) (σ : mM) (Q : mA) : Prop := E1 knS d 424 (jmp 424 0) (entL 424 [(2, 279), (0, a1), (0, a2)]) [] σ Q zno
/-- MarkHouseModel.input(I)I at (279,) -/
def m_input (d : Nat) (a1 : Int) (σ : mM) (Q : mA) : Prop := E1 knS d 425 (jmp 425 0) (entL 425 [(2, 279), (0, a1)]) [] σ Q zno
/-- MarkHouseModel.begin(IZ)V at (279,) -/
def m_begin (d : Nat) (a1 a2 : Int) (σ : mM) (Q : mA) : Prop := E1 knS d 426 (jmp 426 0) (entL 426 [(2, 279), (0, a1), (0, a2)]) [] σ Q zno
def m_begin_25 (d : Nat) (l1 l2 k0 : Int) (σ : mM) (Q : mA) : Prop := E1 knS d 426 (jmp 426 25) [(2, 279), (0, l1), (0, l2), (3, 0), (3, 0)] [(0, k0), (2, 279)] σ Q zno
def m_begin_93 (d : Nat) (l1 l3 : Int) (σ : mM) (Q : mA) : Prop := E1 knS d 426 (jmp 426 93) [(2, 279), (0, l1), (3, 0), (0, l3), (3, 0)] [] σ Q zno
def m_begin_163 (d : Nat) (l1 l3 : Int) (σ : mM) (Q : mA) : Prop := E1 knS d 426 (jmp 426 163) [(2, 279), (0, l1), (3, 0), (0, l3), (3, 0)] [] σ Q zno
def m_begin_114 (d : Nat) (l1 l3 l4 : Int) (σ : mM) (Q : mA) : Prop := E1 knS d 426 (jmp 426 114) [(2, 279), (0, l1), (3, 0), (0, l3), (0, l4)] [] σ Q zno
/-- MarkHouseModel.go(I)I at (279,) -/
def m_go (d : Nat) (a1 : Int) (σ : mM) (Q : mA) : Prop := E1 knS d 429 (jmp 429 0) (entL 429 [(2, 279), (0, a1)]) [] σ Q zno
def m_go_44 (d : Nat) (l1 l2 : Int) (σ : mM) (Q : mA) : Prop := E1 knS d 429 (jmp 429 44) [(2, 279), (0, l1), (0, l2), (3, 0), (3, 0)] [] σ Q zno
def m_go_114 (d : Nat) (l1 l2 l3 l4 : Int) (σ : mM) (Q : mA) : Prop := E1 knS d 429 (jmp 429 114) [(2, 279), (0, l1), (0, l2), (0, l3), (0, l4)] [] σ Q zno
def m_go_143 (d : Nat) (l1 l2 l3 l4 : Int) (σ : mM) (Q : mA) : Prop := E1 knS d 429 (jmp 429 143) [(2, 279), (0, l1), (0, l2), (0, l3), (0, l4)] [] σ Q zno
/-- MarkHouseModel.run(I)I at (279,) -/
def m_run (d : Nat) (a1 : Int) (σ : mM) (Q : mA) : Prop := E1 knS d 437 (jmp 437 0) (entL 437 [(2, 279), (0, a1)]) [] σ Q zno
def m_run_29 (d : Nat) (l1 k0 : Int) (σ : mM) (Q : mA) : Prop := E1 knS d 437 (jmp 437 29) [(2, 279), (0, l1), (3, 0)] [(0, k0)] σ Q zno
def m_run_81 (d : Nat) (l1 l2 : Int) (σ : mM) (Q : mA) : Prop := E1 knS d 437 (jmp 437 81) [(2, 279), (0, l1), (0, l2)] [] σ Q zno
/-- MarkHouseModel.truth(I)I at (279,) -/
def m_truth (d : Nat) (a1 : Int) (σ : mM) (Q : mA) : Prop := E1 knS d 438 (jmp 438 0) (entL 438 [(2, 279), (0, a1)]) [] σ Q zno
/-- MarkHouseModel.wire()I at (279,) -/
def m_wire (d : Nat) (σ : mM) (Q : mA) : Prop := E1 knS d 439 (jmp 439 0) (entL 439 [(2, 279)]) [] σ Q zno
def m_wire_49 (d : Nat) (l1 l2 : Int) (σ : mM) (Q : mA) : Prop := E1 knS d 439 (jmp 439 49) [(2, 279), (0, l1), (0, l2)] [] σ Q zno
def m_wire_151 (d : Nat) (l2 : Int) (σ : mM) (Q : mA) : Prop := E1 knS d 439 (jmp 439 151) [(2, 279), (3, 0), (0, l2)] [] σ Q zno
def m_wire_111 (d : Nat) (l1 l2 k0 k1 : Int) (σ : mM) (Q : mA) : Prop := E1 knS d 439 (jmp 439 111) [(2, 279), (0, l1), (0, l2)] [(0, k0), (0, k1), (2, 369)] σ Q zno
/-- MarkHouseModel.wired(I)I at (279,) -/
def m_wired (d : Nat) (a1 : Int) (σ : mM) (Q : mA) : Prop := E1 knS d 447 (jmp 447 0) (entL 447 [(2, 279), (0, a1)]) [] σ Q zno
/-- MarkHouse$Bytes.has(I)Z at (157,) -/
def xB_has (d : Nat) (a1 : Int) (σ : mM) (Q : mA) : Prop := E1 knS d 45 (jmp 45 0) (entL 45 [(2, 157), (0, a1)]) [] σ Q zno
/-- MarkHouse$Bytes.size()I at (157,) -/
def xB_size (d : Nat) (σ : mM) (Q : mA) : Prop := E1 knS d 47 (jmp 47 0) (entL 47 [(2, 157)]) [] σ Q zno
/-- MarkHouse$Bytes.add(I)V at (157,) -/
def xB_add (d : Nat) (a1 : Int) (σ : mM) (Q : mA) : Prop := E1 knS d 46 (jmp 46 0) (entL 46 [(2, 157), (0, a1)]) [] σ Q zno
/-- MarkHouse$Bytes.cut(I)V at (157,) -/
def xB_cut (d : Nat) (a1 : Int) (σ : mM) (Q : mA) : Prop := E1 knS d 48 (jmp 48 0) (entL 48 [(2, 157), (0, a1)]) [] σ Q zno
/-- MarkHouse$Bytes.size()I at (159,) -/
def xB_size' (d : Nat) (σ : mM) (Q : mA) : Prop := E1 knS d 47 (jmp 47 0) (entL 47 [(2, 159)]) [] σ Q zno
/-- MarkHouse$Bytes.at(I)I at (159,) -/
def xB_at (d : Nat) (a1 : Int) (σ : mM) (Q : mA) : Prop := E1 knS d 49 (jmp 49 0) (entL 49 [(2, 159), (0, a1)]) [] σ Q zno
/-- MarkHouse$Teller.tell()V at (278,) -/
def xT_tell (d : Nat) (σ : mM) (Q : mA) : Prop := E1 knS d 252 (jmp 252 0) (entL 252 [(2, 278)]) [] σ Q zno
def xT_tell_9 (d : Nat) (l1 : Int) (σ : mM) (Q : mA) : Prop := E1 knS d 252 (jmp 252 9) [(2, 278), (0, l1)] [] σ Q zno
def xT_tell_36 (d : Nat) (l1 : Int) (σ : mM) (Q : mA) : Prop := E1 knS d 252 (jmp 252 36) [(2, 278), (0, l1)] [] σ Q zno
def xT_tell_60 (d : Nat) (l1 : Int) (σ : mM) (Q : mA) : Prop := E1 knS d 252 (jmp 252 60) [(2, 278), (0, l1)] [] σ Q zno
def xT_tell_146 (d : Nat) (l1 : Int) (σ : mM) (Q : mA) : Prop := E1 knS d 252 (jmp 252 146) [(2, 278), (0, l1)] [] σ Q zno
/-- MarkHouse.in(II)Z at () -/
def x_in (d : Nat) (a1 a2 : Int) (σ : mM) (Q : mA) : Prop := E1 knS d 13 (jmp 13 0) (entL 13 [(0, a1), (0, a2)]) [] σ Q zno
/-- MarkHouse$Program.methodAt(I)I at (170,) -/
def xP_methodAt (d : Nat) (a1 : Int) (σ : mM) (Q : mA) : Prop := E1 knS d 81 (jmp 81 0) (entL 81 [(2, 170), (0, a1)]) [] σ Q zno
/-- MarkHouse$Program.row(I)I at (170,) -/
def xP_row (d : Nat) (a1 : Int) (σ : mM) (Q : mA) : Prop := E1 knS d 82 (jmp 82 0) (entL 82 [(2, 170), (0, a1)]) [] σ Q zno
/-- MarkHouse.isOrder(I)Z at (156,) -/
def x_isOrder (d : Nat) (a1 : Int) (σ : mM) (Q : mA) : Prop := E1 knS d 15 (jmp 15 0) (entL 15 [(2, 156), (0, a1)]) [] σ Q zno
/-- MarkHouse$Orders.isBelow(III)Z at (171,) -/
def xO_isBelow (d : Nat) (a1 a2 a3 : Int) (σ : mM) (Q : mA) : Prop := E1 knS d 102 (jmp 102 0) (entL 102 [(2, 171), (0, a1), (0, a2), (0, a3)]) [] σ Q zno
/-- MarkHouse$Orders.join(III)I at (171,) -/
def xO_join (d : Nat) (a1 a2 a3 : Int) (σ : mM) (Q : mA) : Prop := E1 knS d 106 (jmp 106 0) (entL 106 [(2, 171), (0, a1), (0, a2), (0, a3)]) [] σ Q zno
/-- MarkHouse$Orders.meet(III)I at (171,) -/
def xO_meet (d : Nat) (a1 a2 a3 : Int) (σ : mM) (Q : mA) : Prop := E1 knS d 107 (jmp 107 0) (entL 107 [(2, 171), (0, a1), (0, a2), (0, a3)]) [] σ Q zno
/-- MarkHouse$Passing.kindOf(J)I at (226,) -/
def xS_kindOf (d : Nat) (a1 : Int) (σ : mM) (Q : mA) : Prop := E1 knS d 159 (jmp 159 0) (entL 159 [(2, 226), (1, a1)]) [] σ Q zno
/-- MarkHouse$Passing.counts(II)Z at (226,) -/
def xS_counts (d : Nat) (a1 a2 : Int) (σ : mM) (Q : mA) : Prop := E1 knS d 158 (jmp 158 0) (entL 158 [(2, 226), (0, a1), (0, a2)]) [] σ Q zno
def xS_counts_78 (d : Nat) (l1 l2 : Int) (σ : mM) (Q : mA) : Prop := E1 knS d 158 (jmp 158 78) [(2, 226), (0, l1), (0, l2), (3, 0), (3, 0)] [] σ Q zno
/-- MarkHouse$Marks.isNo(I)Z at (180,) -/
def xM_isNo (d : Nat) (a1 : Int) (σ : mM) (Q : mA) : Prop := E1 knS d 113 (jmp 113 0) (entL 113 [(2, 180), (0, a1)]) [] σ Q zno
/-- MarkHouse$Bytes.clear()V at (157,) -/
def xB_clear (d : Nat) (σ : mM) (Q : mA) : Prop := E1 knS d 50 (jmp 50 0) (entL 50 [(2, 157)]) [] σ Q zno
/-- MarkHouse.change()V at (156,) -/
def x_change (d : Nat) (σ : mM) (Q : mA) : Prop := E1 knS d 18 (jmp 18 0) (entL 18 [(2, 156)]) [] σ Q zno
/-- MarkHouse$Attributes.give(ILMarkHouse$Bytes;)I at (234, 157) -/
def xA_give (d : Nat) (a1 : Int) (σ : mM) (Q : mA) : Prop := E1 knS d 180 (jmp 180 0) (entL 180 [(2, 234), (0, a1), (2, 157)]) [] σ Q zno
def xA_give_27 (d : Nat) (l1 l3 : Int) (σ : mM) (Q : mA) : Prop := E1 knS d 180 (jmp 180 27) [(2, 234), (0, l1), (3, 0), (0, l3)] [] σ Q zno
/-- MarkHouse$Attributes.write(ILMarkHouse$Bytes;)V at (234, 159) -/
def xA_write (d : Nat) (a1 : Int) (σ : mM) (Q : mA) : Prop := E1 knS d 187 (jmp 187 0) (entL 187 [(2, 234), (0, a1), (2, 159)]) [] σ Q zno
def xA_write_22 (d : Nat) (l1 l3 : Int) (σ : mM) (Q : mA) : Prop := E1 knS d 187 (jmp 187 22) [(2, 234), (0, l1), (2, 159), (0, l3), (3, 0), (3, 0)] [] σ Q zno
def xA_write_71 (d : Nat) (l1 l3 l4 : Int) (σ : mM) (Q : mA) : Prop := E1 knS d 187 (jmp 187 71) [(2, 234), (0, l1), (2, 159), (0, l3), (0, l4), (3, 0)] [] σ Q zno
def xA_write_146 (d : Nat) (l1 l3 l4 l5 : Int) (σ : mM) (Q : mA) : Prop := E1 knS d 187 (jmp 187 146) [(2, 234), (0, l1), (2, 159), (0, l3), (0, l4), (0, l5)] [] σ Q zno
/-- MarkHouse.isAsked(II)Z at (156,) -/
def x_isAsked (d : Nat) (a1 a2 : Int) (σ : mM) (Q : mA) : Prop := E1 knS d 21 (jmp 21 0) (entL 21 [(2, 156), (0, a1), (0, a2)]) [] σ Q zno
/-- MarkHouse$Passing.find(II)I at (226,) -/
def xS_find (d : Nat) (a1 a2 : Int) (σ : mM) (Q : mA) : Prop := E1 knS d 163 (jmp 163 0) (entL 163 [(2, 226), (0, a1), (0, a2)]) [] σ Q zno
def xS_find_44 (d : Nat) (l2 l3 l5 l6 : Int) (σ : mM) (Q : mA) : Prop := E1 knS d 163 (jmp 163 44) [(2, 226), (3, 0), (0, l2), (1, l3), (3, 0), (0, l5), (0, l6)] [] σ Q zno
/-- MarkHouse$Program.place(I)I at () -/
def xP_place (d : Nat) (a1 : Int) (σ : mM) (Q : mA) : Prop := E1 knS d 88 (jmp 88 0) (entL 88 [(0, a1)]) [] σ Q zno
/-- MarkHouse$Passing.mark(I)I at (226,) -/
def xS_mark (d : Nat) (a1 : Int) (σ : mM) (Q : mA) : Prop := E1 knS d 173 (jmp 173 0) (entL 173 [(2, 226), (0, a1)]) [] σ Q zno
def xS_mark_19 (d : Nat) (l2 l3 : Int) (σ : mM) (Q : mA) : Prop := E1 knS d 173 (jmp 173 19) [(2, 226), (3, 0), (0, l2), (0, l3)] [] σ Q zno
/-- MarkHouse$Passing.sort(III)I at (226,) -/
def xS_sort (d : Nat) (a1 a2 a3 : Int) (σ : mM) (Q : mA) : Prop := E1 knS d 161 (jmp 161 0) (entL 161 [(2, 226), (0, a1), (0, a2), (0, a3)]) [] σ Q zno
/-- MarkHouse$Bytes.clear()V at (159,) -/
def xB_clear' (d : Nat) (σ : mM) (Q : mA) : Prop := E1 knS d 50 (jmp 50 0) (entL 50 [(2, 159)]) [] σ Q zno
/-- MarkHouse$Passing.value(III)J at (226,) -/
def xS_value (d : Nat) (a1 a2 a3 : Int) (σ : mM) (Q : mA) : Prop := E1 knS d 172 (jmp 172 0) (entL 172 [(2, 226), (0, a1), (0, a2), (0, a3)]) [] σ Q zno
/-- MarkHouse$Bytes.addNumber(I)V at (159,) -/
def xB_addNumber (d : Nat) (a1 : Int) (σ : mM) (Q : mA) : Prop := E1 knS d 54 (jmp 54 0) (entL 54 [(2, 159), (0, a1)]) [] σ Q zno
/-- MarkHouse$Bytes.addName(J)V at (159,) -/
def xB_addName (d : Nat) (a1 : Int) (σ : mM) (Q : mA) : Prop := E1 knS d 52 (jmp 52 0) (entL 52 [(2, 159), (1, a1)]) [] σ Q zno
def xB_addName_3 (d : Nat) (l1 l3 : Int) (σ : mM) (Q : mA) : Prop := E1 knS d 52 (jmp 52 3) [(2, 159), (1, l1), (3, 0), (0, l3)] [] σ Q zno
/-- MarkHouse$Passing.element(II)I at (226,) -/
def xS_element (d : Nat) (a1 a2 : Int) (σ : mM) (Q : mA) : Prop := E1 knS d 160 (jmp 160 0) (entL 160 [(2, 226), (0, a1), (0, a2)]) [] σ Q zno
/-- MarkHouse$Program.sort(I)I at () -/
def xP_sort (d : Nat) (a1 : Int) (σ : mM) (Q : mA) : Prop := E1 knS d 77 (jmp 77 0) (entL 77 [(0, a1)]) [] σ Q zno
/-- MarkHouse$Passing.markOf(II)I at (226,) -/
def xS_markOf (d : Nat) (a1 a2 : Int) (σ : mM) (Q : mA) : Prop := E1 knS d 174 (jmp 174 0) (entL 174 [(2, 226), (0, a1), (0, a2)]) [] σ Q zno
/-- MarkHouse$Passing.rounds()I at (226,) -/
def xS_rounds (d : Nat) (σ : mM) (Q : mA) : Prop := E1 knS d 175 (jmp 175 0) (entL 175 [(2, 226)]) [] σ Q zno
def xS_rounds_2 (d : Nat) (l1 : Int) (σ : mM) (Q : mA) : Prop := E1 knS d 175 (jmp 175 2) [(2, 226), (0, l1)] [] σ Q zno
/-- MarkHouse$Flow.find(I)I at (235,) -/
def xF_find (d : Nat) (a1 : Int) (σ : mM) (Q : mA) : Prop := E1 knS d 191 (jmp 191 0) (entL 191 [(2, 235), (0, a1)]) [] σ Q zno
def xF_find_16 (d : Nat) (l2 : Int) (σ : mM) (Q : mA) : Prop := E1 knS d 191 (jmp 191 16) [(2, 235), (3, 0), (0, l2), (3, 0)] [] σ Q zno
def xF_find_38 (d : Nat) (l2 l3 : Int) (σ : mM) (Q : mA) : Prop := E1 knS d 191 (jmp 191 38) [(2, 235), (3, 0), (0, l2), (0, l3)] [] σ Q zno
/-- MarkHouse$Program.ofMethod(I)I at () -/
def xP_ofMethod (d : Nat) (a1 : Int) (σ : mM) (Q : mA) : Prop := E1 knS d 79 (jmp 79 0) (entL 79 [(0, a1)]) [] σ Q zno
/-- MarkHouse$Ways.find(I)I at (255,) -/
def xW_find (d : Nat) (a1 : Int) (σ : mM) (Q : mA) : Prop := E1 knS d 207 (jmp 207 0) (entL 207 [(2, 255), (0, a1)]) [] σ Q zno
def xW_find_53 (d : Nat) (l1 l3 : Int) (σ : mM) (Q : mA) : Prop := E1 knS d 207 (jmp 207 53) [(2, 255), (0, l1), (3, 0), (0, l3), (3, 0)] [] σ Q zno
def xW_find_88 (d : Nat) (σ : mM) (Q : mA) : Prop := E1 knS d 207 (jmp 207 88) [(2, 255), (3, 0), (3, 0), (3, 0), (3, 0)] [] σ Q zno
def xW_find_120 (d : Nat) (l3 : Int) (σ : mM) (Q : mA) : Prop := E1 knS d 207 (jmp 207 120) [(2, 255), (3, 0), (3, 0), (0, l3), (3, 0)] [] σ Q zno
def xW_find_156 (d : Nat) (l3 l4 : Int) (σ : mM) (Q : mA) : Prop := E1 knS d 207 (jmp 207 156) [(2, 255), (3, 0), (3, 0), (0, l3), (0, l4)] [] σ Q zno
/-- MarkHouse$Flow.isReached(I)Z at (235,) -/
def xF_isReached (d : Nat) (a1 : Int) (σ : mM) (Q : mA) : Prop := E1 knS d 199 (jmp 199 0) (entL 199 [(2, 235), (0, a1)]) [] σ Q zno
/-- MarkHouse$Flow.least(I)I at (245,) -/
def xF_least (d : Nat) (a1 : Int) (σ : mM) (Q : mA) : Prop := E1 knS d 204 (jmp 204 0) (entL 204 [(2, 245), (0, a1)]) [] σ Q zno
def xF_least_4 (d : Nat) (l1 l2 l3 : Int) (σ : mM) (Q : mA) : Prop := E1 knS d 204 (jmp 204 4) [(2, 245), (0, l1), (0, l2), (0, l3), (3, 0), (3, 0)] [] σ Q zno
def xF_least_112 (d : Nat) (l1 l2 l3 : Int) (σ : mM) (Q : mA) : Prop := E1 knS d 204 (jmp 204 112) [(2, 245), (0, l1), (0, l2), (0, l3), (3, 0), (3, 0)] [] σ Q zno
def xF_least_70 (d : Nat) (l1 l3 k0 k1 : Int) (σ : mM) (Q : mA) : Prop := E1 knS d 204 (jmp 204 70) [(2, 245), (0, l1), (3, 0), (0, l3), (3, 0), (3, 0)] [(0, k0), (0, k1)] σ Q zno
def xF_least_130 (d : Nat) (l1 l2 l3 l4 : Int) (σ : mM) (Q : mA) : Prop := E1 knS d 204 (jmp 204 130) [(2, 245), (0, l1), (0, l2), (0, l3), (0, l4), (3, 0)] [] σ Q zno
def xF_least_156 (d : Nat) (l1 l2 l3 l4 l5 : Int) (σ : mM) (Q : mA) : Prop := E1 knS d 204 (jmp 204 156) [(2, 245), (0, l1), (0, l2), (0, l3), (0, l4), (0, l5)] [] σ Q zno
/-- MarkHouse$Passing.plain(I)V at (226,) -/
def xS_plain (d : Nat) (a1 : Int) (σ : mM) (Q : mA) : Prop := E1 knS d 178 (jmp 178 0) (entL 178 [(2, 226), (0, a1)]) [] σ Q zno
def xS_plain_2 (d : Nat) (l1 l2 : Int) (σ : mM) (Q : mA) : Prop := E1 knS d 178 (jmp 178 2) [(2, 226), (0, l1), (0, l2)] [] σ Q zno
/-- MarkHouse$Weaver.weave()I at (261,) -/
def xV_weave (d : Nat) (σ : mM) (Q : mA) : Prop := E1 knS d 216 (jmp 216 0) (entL 216 [(2, 261)]) [] σ Q zno
def xV_weave_8 (d : Nat) (l1 l2 : Int) (σ : mM) (Q : mA) : Prop := E1 knS d 216 (jmp 216 8) [(2, 261), (0, l1), (0, l2), (3, 0), (3, 0)] [] σ Q zno
def xV_weave_38 (d : Nat) (l1 l2 l3 l4 : Int) (σ : mM) (Q : mA) : Prop := E1 knS d 216 (jmp 216 38) [(2, 261), (0, l1), (0, l2), (0, l3), (0, l4)] [] σ Q zno
/-- MarkHouse$Teller.code(IZ)V at (278,) -/
def xT_code (d : Nat) (a1 a2 : Int) (σ : mM) (Q : mA) : Prop := E1 knS d 269 (jmp 269 0) (entL 269 [(2, 278), (0, a1), (0, a2)]) [] σ Q zno
def xT_code_12 (d : Nat) (l1 l2 l3 : Int) (σ : mM) (Q : mA) : Prop := E1 knS d 269 (jmp 269 12) [(2, 278), (0, l1), (0, l2), (0, l3), (3, 0)] [] σ Q zno
def xT_code_33 (d : Nat) (l1 l2 l3 l4 : Int) (σ : mM) (Q : mA) : Prop := E1 knS d 269 (jmp 269 33) [(2, 278), (0, l1), (0, l2), (0, l3), (0, l4)] [] σ Q zno
/-- MarkHouse$Machine.input(I)Z at (263,) -/
def xC_input (d : Nat) (a1 : Int) (σ : mM) (Q : mA) : Prop := E1 knS d 219 (jmp 219 0) (entL 219 [(2, 263), (0, a1)]) [] σ Q zno
/-- MarkHouse$Machine.told0(I)I at (263,) -/
def xC_told0 (d : Nat) (a1 : Int) (σ : mM) (Q : mA) : Prop := E1 knS d 220 (jmp 220 0) (entL 220 [(2, 263), (0, a1)]) [] σ Q zno
/-- MarkHouse$Machine.truth(I)I at (263,) -/
def xC_truth (d : Nat) (a1 : Int) (σ : mM) (Q : mA) : Prop := E1 knS d 221 (jmp 221 0) (entL 221 [(2, 263), (0, a1)]) [] σ Q zno
/-- MarkHouse$Wirer.wire()I at (273,) -/
def xI_wire (d : Nat) (σ : mM) (Q : mA) : Prop := E1 knS d 243 (jmp 243 0) (entL 243 [(2, 273)]) [] σ Q zno
def xI_wire_28 (d : Nat) (l1 l2 : Int) (σ : mM) (Q : mA) : Prop := E1 knS d 243 (jmp 243 28) [(2, 273), (0, l1), (0, l2)] [] σ Q zno
def xI_wire_114 (d : Nat) (l2 : Int) (σ : mM) (Q : mA) : Prop := E1 knS d 243 (jmp 243 114) [(2, 273), (3, 0), (0, l2)] [] σ Q zno
def xI_wire_69 (d : Nat) (l1 l2 k0 k1 : Int) (σ : mM) (Q : mA) : Prop := E1 knS d 243 (jmp 243 69) [(2, 273), (0, l1), (0, l2)] [(0, k0), (0, k1), (2, 274)] σ Q zno
/-- MarkHouse$Wirer.told(I)I at (273,) -/
def xI_told (d : Nat) (a1 : Int) (σ : mM) (Q : mA) : Prop := E1 knS d 250 (jmp 250 0) (entL 250 [(2, 273), (0, a1)]) [] σ Q zno
/-- MarkHouse$Fault.clear()V at (161,) -/
def xE_clear (d : Nat) (σ : mM) (Q : mA) : Prop := E1 knS d 56 (jmp 56 0) (entL 56 [(2, 161)]) [] σ Q zno
/-- MarkHouse$Program.clear()V at (170,) -/
def xP_clear (d : Nat) (σ : mM) (Q : mA) : Prop := E1 knS d 95 (jmp 95 0) (entL 95 [(2, 170)]) [] σ Q zno
/-- MarkHouse$Lexemes.cut(LMarkHouse$Bytes;LMarkHouse$Fault;)V at (162, 157, 161) -/
def xL_cut (d : Nat) (σ : mM) (Q : mA) (Z : mM → Prop) : Prop := E1 knS d 62 (jmp 62 0) (entL 62 [(2, 162), (2, 157), (2, 161)]) [] σ Q Z
def xL_cut_10 (d : Nat) (l3 : Int) (σ : mM) (Q : mA) (Z : mM → Prop) : Prop := E1 knS d 62 (jmp 62 10) [(2, 162), (2, 157), (2, 161), (0, l3), (3, 0)] [] σ Q Z
def xL_cut_48 (d : Nat) (l3 : Int) (σ : mM) (Q : mA) (Z : mM → Prop) : Prop := E1 knS d 62 (jmp 62 48) [(2, 162), (3, 0), (2, 161), (0, l3), (3, 0)] [] σ Q Z
def xL_cut_78 (d : Nat) (l3 : Int) (σ : mM) (Q : mA) (Z : mM → Prop) : Prop := E1 knS d 62 (jmp 62 78) [(2, 162), (3, 0), (2, 161), (0, l3), (3, 0)] [] σ Q Z
/-- MarkHouse$Reader.read()V at (224,) -/
def xR_read (d : Nat) (σ : mM) (Q : mA) (Z : mM → Prop) : Prop := E1 knS d 120 (jmp 120 0) (entL 120 [(2, 224)]) [] σ Q Z
def xR_read_15 (d : Nat) (σ : mM) (Q : mA) (Z : mM → Prop) : Prop := E1 knS d 120 (jmp 120 15) [(2, 224), (3, 0)] [] σ Q Z
def xR_read_30 (d : Nat) (σ : mM) (Q : mA) (Z : mM → Prop) : Prop := E1 knS d 120 (jmp 120 30) [(2, 224), (3, 0)] [] σ Q Z
def xR_read_45 (d : Nat) (σ : mM) (Q : mA) (Z : mM → Prop) : Prop := E1 knS d 120 (jmp 120 45) [(2, 224), (3, 0)] [] σ Q Z
def xR_read_74 (d : Nat) (σ : mM) (Q : mA) (Z : mM → Prop) : Prop := E1 knS d 120 (jmp 120 74) [(2, 224), (3, 0)] [] σ Q Z
def xR_read_111 (d : Nat) (l1 : Int) (σ : mM) (Q : mA) (Z : mM → Prop) : Prop := E1 knS d 120 (jmp 120 111) [(2, 224), (0, l1)] [] σ Q Z
def xR_read_138 (d : Nat) (l1 : Int) (σ : mM) (Q : mA) (Z : mM → Prop) : Prop := E1 knS d 120 (jmp 120 138) [(2, 224), (0, l1)] [] σ Q Z
/-- MarkHouse$Machine.begin(IZ)V at (263,) -/
def xC_begin (d : Nat) (a1 a2 : Int) (σ : mM) (Q : mA) : Prop := E1 knS d 223 (jmp 223 0) (entL 223 [(2, 263), (0, a1), (0, a2)]) [] σ Q zno
def xC_begin_7 (d : Nat) (l1 l3 : Int) (σ : mM) (Q : mA) : Prop := E1 knS d 223 (jmp 223 7) [(2, 263), (0, l1), (3, 0), (0, l3), (3, 0)] [] σ Q zno
def xC_begin_92 (d : Nat) (l1 l3 : Int) (σ : mM) (Q : mA) : Prop := E1 knS d 223 (jmp 223 92) [(2, 263), (0, l1), (3, 0), (0, l3), (3, 0)] [] σ Q zno
def xC_begin_24 (d : Nat) (l1 l3 l4 : Int) (σ : mM) (Q : mA) : Prop := E1 knS d 223 (jmp 223 24) [(2, 263), (0, l1), (3, 0), (0, l3), (0, l4)] [] σ Q zno
def xC_begin_139 (d : Nat) (l1 l3 : Int) (σ : mM) (Q : mA) : Prop := E1 knS d 223 (jmp 223 139) [(2, 263), (0, l1), (3, 0), (0, l3), (3, 0)] [] σ Q zno
def xC_begin_228 (d : Nat) (l1 l3 : Int) (σ : mM) (Q : mA) : Prop := E1 knS d 223 (jmp 223 228) [(2, 263), (0, l1), (3, 0), (0, l3), (3, 0)] [] σ Q zno
/-- MarkHouse$Machine.go(I)I at (263,) -/
def xC_go (d : Nat) (a1 : Int) (σ : mM) (Q : mA) : Prop := E1 knS d 225 (jmp 225 0) (entL 225 [(2, 263), (0, a1)]) [] σ Q zno
def xC_go_2 (d : Nat) (l1 l2 : Int) (σ : mM) (Q : mA) : Prop := E1 knS d 225 (jmp 225 2) [(2, 263), (0, l1), (0, l2)] [] σ Q zno
/-- MarkHouseModel.four(I)V at (279,) -/
def m_four (d : Nat) (a1 : Int) (σ : mM) (Q : mA) : Prop := E1 knS d 273 (jmp 273 0) (entL 273 [(2, 279), (0, a1)]) [] σ Q zno
def m_four_3 (d : Nat) (l1 l2 : Int) (σ : mM) (Q : mA) : Prop := E1 knS d 273 (jmp 273 3) [(2, 279), (0, l1), (0, l2)] [] σ Q zno
/-- MarkHouseModel.changed()V at (279,) -/
def m_changed (d : Nat) (σ : mM) (Q : mA) : Prop := E1 knS d 277 (jmp 277 0) (entL 277 [(2, 279)]) [] σ Q zno
/-- MarkHouseModel.cut(I)V at (279,) -/
def m_cut (d : Nat) (a1 : Int) (σ : mM) (Q : mA) : Prop := E1 knS d 278 (jmp 278 0) (entL 278 [(2, 279), (0, a1)]) [] σ Q zno
def m_cut_7 (d : Nat) (l1 l2 : Int) (σ : mM) (Q : mA) : Prop := E1 knS d 278 (jmp 278 7) [(2, 279), (0, l1), (0, l2), (3, 0), (3, 0), (3, 0), (3, 0), (3, 0)] [] σ Q zno
def m_cut_281 (d : Nat) (l1 l2 l4 l5 : Int) (σ : mM) (Q : mA) : Prop := E1 knS d 278 (jmp 278 281) [(2, 279), (0, l1), (0, l2), (3, 0), (0, l4), (1, l5), (3, 0), (3, 0)] [] σ Q zno
def m_cut_184 (d : Nat) (l1 l2 l4 l5 : Int) (σ : mM) (Q : mA) : Prop := E1 knS d 278 (jmp 278 184) [(2, 279), (0, l1), (0, l2), (3, 0), (0, l4), (1, l5), (3, 0), (3, 0)] [] σ Q zno
def m_cut_57 (d : Nat) (l1 l2 l4 l5 : Int) (σ : mM) (Q : mA) : Prop := E1 knS d 278 (jmp 278 57) [(2, 279), (0, l1), (0, l2), (3, 0), (0, l4), (1, l5), (3, 0), (3, 0)] [] σ Q zno
def m_cut_349 (d : Nat) (l1 l2 l4 l5 : Int) (σ : mM) (Q : mA) : Prop := E1 knS d 278 (jmp 278 349) [(2, 279), (0, l1), (0, l2), (3, 0), (0, l4), (1, l5), (3, 0), (3, 0)] [] σ Q zno
def m_cut_241 (d : Nat) (l1 l2 l4 l5 : Int) (σ : mM) (Q : mA) : Prop := E1 knS d 278 (jmp 278 241) [(2, 279), (0, l1), (0, l2), (3, 0), (0, l4), (1, l5), (3, 0), (3, 0)] [] σ Q zno
def m_cut_107 (d : Nat) (l1 l2 l4 l5 : Int) (σ : mM) (Q : mA) : Prop := E1 knS d 278 (jmp 278 107) [(2, 279), (0, l1), (0, l2), (3, 0), (0, l4), (1, l5), (3, 0), (3, 0)] [] σ Q zno
def m_cut_142 (d : Nat) (l1 l2 l4 l5 k0 : Int) (σ : mM) (Q : mA) : Prop := E1 knS d 278 (jmp 278 142) [(2, 279), (0, l1), (0, l2), (3, 0), (0, l4), (1, l5), (3, 0), (3, 0)] [(0, k0)] σ Q zno
/-- MarkHouseModel.readProgram()V at (279,) -/
def m_readProgram (d : Nat) (σ : mM) (Q : mA) : Prop := E1 knS d 286 (jmp 286 0) (entL 286 [(2, 279)]) [] σ Q zno
def m_readProgram_27 (d : Nat) (l1 : Int) (σ : mM) (Q : mA) : Prop := E1 knS d 286 (jmp 286 27) [(2, 279), (0, l1)] [] σ Q zno
def m_readProgram_47 (d : Nat) (σ : mM) (Q : mA) : Prop := E1 knS d 286 (jmp 286 47) [(2, 279), (3, 0)] [] σ Q zno
def m_readProgram_69 (d : Nat) (σ : mM) (Q : mA) : Prop := E1 knS d 286 (jmp 286 69) [(2, 279), (3, 0)] [] σ Q zno
def m_readProgram_91 (d : Nat) (σ : mM) (Q : mA) : Prop := E1 knS d 286 (jmp 286 91) [(2, 279), (3, 0)] [] σ Q zno
def m_readProgram_133 (d : Nat) (σ : mM) (Q : mA) : Prop := E1 knS d 286 (jmp 286 133) [(2, 279), (3, 0)] [] σ Q zno
def m_readProgram_155 (d : Nat) (σ : mM) (Q : mA) : Prop := E1 knS d 286 (jmp 286 155) [(2, 279), (3, 0)] [] σ Q zno
/-- MarkHouseModel.findNames()V at (279,) -/
def m_findNames (d : Nat) (σ : mM) (Q : mA) : Prop := E1 knS d 330 (jmp 330 0) (entL 330 [(2, 279)]) [] σ Q zno
def m_findNames_2 (d : Nat) (l1 : Int) (σ : mM) (Q : mA) : Prop := E1 knS d 330 (jmp 330 2) [(2, 279), (0, l1), (3, 0)] [] σ Q zno
def m_findNames_28 (d : Nat) (l1 l2 : Int) (σ : mM) (Q : mA) : Prop := E1 knS d 330 (jmp 330 28) [(2, 279), (0, l1), (0, l2)] [] σ Q zno
/-- MarkHouseModel.isMethod(I)Z at (279,) -/
def m_isMethod (d : Nat) (a1 : Int) (σ : mM) (Q : mA) : Prop := E1 knS d 331 (jmp 331 0) (entL 331 [(2, 279), (0, a1)]) [] σ Q zno
/-- MarkHouseModel.findDepths(I)V at (279,) -/
def m_findDepths (d : Nat) (a1 : Int) (σ : mM) (Q : mA) : Prop := E1 knS d 335 (jmp 335 0) (entL 335 [(2, 279), (0, a1)]) [] σ Q zno
def m_findDepths_21 (d : Nat) (l3 l4 l5 : Int) (σ : mM) (Q : mA) : Prop := E1 knS d 335 (jmp 335 21) [(2, 279), (3, 0), (2, 336), (0, l3), (0, l4), (0, l5), (3, 0), (3, 0)] [] σ Q zno
def m_findDepths_56 (d : Nat) (l3 l4 : Int) (σ : mM) (Q : mA) : Prop := E1 knS d 335 (jmp 335 56) [(2, 279), (3, 0), (2, 336), (0, l3), (0, l4), (3, 0), (3, 0), (3, 0)] [] σ Q zno
def m_findDepths_66 (d : Nat) (l3 l4 l5 : Int) (σ : mM) (Q : mA) : Prop := E1 knS d 335 (jmp 335 66) [(2, 279), (3, 0), (2, 336), (0, l3), (0, l4), (0, l5), (3, 0), (3, 0)] [] σ Q zno
def m_findDepths_98 (d : Nat) (l3 l4 l5 : Int) (σ : mM) (Q : mA) : Prop := E1 knS d 335 (jmp 335 98) [(2, 279), (3, 0), (2, 336), (0, l3), (0, l4), (0, l5), (3, 0), (3, 0)] [] σ Q zno
def m_findDepths_238 (d : Nat) (l3 l4 l6 l7 : Int) (σ : mM) (Q : mA) : Prop := E1 knS d 335 (jmp 335 238) [(2, 279), (3, 0), (2, 336), (0, l3), (0, l4), (3, 0), (0, l6), (0, l7)] [] σ Q zno
/-- MarkHouseModel.isPlace(I)Z at (279,) -/
def m_isPlace (d : Nat) (a1 : Int) (σ : mM) (Q : mA) : Prop := E1 knS d 341 (jmp 341 0) (entL 341 [(2, 279), (0, a1)]) [] σ Q zno
/-- MarkHouseModel.isKey(I)Z at (279,) -/
def m_isKey (d : Nat) (a1 : Int) (σ : mM) (Q : mA) : Prop := E1 knS d 342 (jmp 342 0) (entL 342 [(2, 279), (0, a1)]) [] σ Q zno
def m_isKey_19 (d : Nat) (l1 : Int) (σ : mM) (Q : mA) : Prop := E1 knS d 342 (jmp 342 19) [(2, 279), (0, l1)] [] σ Q zno
/-- MarkHouseModel.effect(II)V at (279,) -/
def m_effect (d : Nat) (a1 a2 : Int) (σ : mM) (Q : mA) : Prop := E1 knS d 343 (jmp 343 0) (entL 343 [(2, 279), (0, a1), (0, a2)]) [] σ Q zno
def m_effect_29 (d : Nat) (l2 l3 l5 : Int) (σ : mM) (Q : mA) : Prop := E1 knS d 343 (jmp 343 29) [(2, 279), (3, 0), (0, l2), (1, l3), (3, 0), (0, l5), (3, 0), (3, 0), (3, 0)] [] σ Q zno
def m_effect_46 (d : Nat) (l2 l3 l5 l6 l7 : Int) (σ : mM) (Q : mA) : Prop := E1 knS d 343 (jmp 343 46) [(2, 279), (3, 0), (0, l2), (1, l3), (3, 0), (0, l5), (0, l6), (0, l7), (3, 0)] [] σ Q zno
def m_effect_153 (d : Nat) (l2 l3 l5 l7 : Int) (σ : mM) (Q : mA) : Prop := E1 knS d 343 (jmp 343 153) [(2, 279), (3, 0), (0, l2), (1, l3), (3, 0), (0, l5), (3, 0), (0, l7), (3, 0)] [] σ Q zno
def m_effect_215 (d : Nat) (l2 l3 l5 : Int) (σ : mM) (Q : mA) : Prop := E1 knS d 343 (jmp 343 215) [(2, 279), (3, 0), (0, l2), (1, l3), (3, 0), (0, l5), (3, 0), (3, 0), (3, 0)] [] σ Q zno
/-- MarkHouseModel.nameOfKey(I)J at (279,) -/
def m_nameOfKey (d : Nat) (a1 : Int) (σ : mM) (Q : mA) : Prop := E1 knS d 344 (jmp 344 0) (entL 344 [(2, 279), (0, a1)]) [] σ Q zno
/-- MarkHouseModel.givenBy(IIJ)I at (279,) -/
def m_givenBy (d : Nat) (a1 a2 a3 : Int) (σ : mM) (Q : mA) : Prop := E1 knS d 347 (jmp 347 0) (entL 347 [(2, 279), (0, a1), (0, a2), (1, a3)]) [] σ Q zno
/-- MarkHouseModel.isSame(III)Z at (279,) -/
def m_isSame (d : Nat) (a1 a2 a3 : Int) (σ : mM) (Q : mA) : Prop := E1 knS d 353 (jmp 353 0) (entL 353 [(2, 279), (0, a1), (0, a2), (0, a3)]) [] σ Q zno
def m_isSame_39 (d : Nat) (l1 l2 l3 l4 l5 : Int) (σ : mM) (Q : mA) : Prop := E1 knS d 353 (jmp 353 39) [(2, 279), (0, l1), (0, l2), (0, l3), (0, l4), (0, l5), (3, 0), (3, 0), (3, 0), (3, 0)] [] σ Q zno
/-- MarkHouseModel.member(III)I at (279,) -/
def m_member (d : Nat) (a1 a2 a3 : Int) (σ : mM) (Q : mA) : Prop := E1 knS d 356 (jmp 356 0) (entL 356 [(2, 279), (0, a1), (0, a2), (0, a3)]) [] σ Q zno
def m_member_10 (d : Nat) (l1 l4 l5 : Int) (σ : mM) (Q : mA) : Prop := E1 knS d 356 (jmp 356 10) [(2, 279), (0, l1), (3, 0), (3, 0), (0, l4), (0, l5), (3, 0)] [] σ Q zno
/-- MarkHouseModel.sayPacked(J)V at (279,) -/
def m_sayPacked (d : Nat) (a1 : Int) (σ : mM) (Q : mA) : Prop := E1 knS d 358 (jmp 358 0) (entL 358 [(2, 279), (1, a1)]) [] σ Q zno
def m_sayPacked_3 (d : Nat) (l1 l3 : Int) (σ : mM) (Q : mA) : Prop := E1 knS d 358 (jmp 358 3) [(2, 279), (1, l1), (3, 0), (0, l3)] [] σ Q zno
/-- MarkHouseModel.say(I)V at (279,) -/
def m_say (d : Nat) (a1 : Int) (σ : mM) (Q : mA) : Prop := E1 knS d 359 (jmp 359 0) (entL 359 [(2, 279), (0, a1)]) [] σ Q zno
/-- MarkHouseModel.elementIn(II)I at (279,) -/
def m_elementIn (d : Nat) (a1 a2 : Int) (σ : mM) (Q : mA) : Prop := E1 knS d 355 (jmp 355 0) (entL 355 [(2, 279), (0, a1), (0, a2)]) [] σ Q zno
def m_elementIn_2 (d : Nat) (l1 l2 l3 : Int) (σ : mM) (Q : mA) : Prop := E1 knS d 355 (jmp 355 2) [(2, 279), (0, l1), (0, l2), (0, l3), (3, 0), (3, 0)] [] σ Q zno
/-- MarkHouseModel.sayNumber(J)V at (279,) -/
def m_sayNumber (d : Nat) (a1 : Int) (σ : mM) (Q : mA) : Prop := E1 knS d 360 (jmp 360 0) (entL 360 [(2, 279), (1, a1)]) [] σ Q zno
def m_sayNumber_2 (d : Nat) (l1 l3 : Int) (σ : mM) (Q : mA) : Prop := E1 knS d 360 (jmp 360 2) [(2, 279), (1, l1), (3, 0), (1, l3), (3, 0)] [] σ Q zno
def m_sayNumber_21 (d : Nat) (l1 l3 : Int) (σ : mM) (Q : mA) : Prop := E1 knS d 360 (jmp 360 21) [(2, 279), (1, l1), (3, 0), (1, l3), (3, 0)] [] σ Q zno
/-- MarkHouseModel.place(II)I at (279,) -/
def m_place (d : Nat) (a1 a2 : Int) (σ : mM) (Q : mA) : Prop := E1 knS d 315 (jmp 315 0) (entL 315 [(2, 279), (0, a1), (0, a2)]) [] σ Q zno
/-- MarkHouseModel.orderOf(J)I at (279,) -/
def m_orderOf (d : Nat) (a1 : Int) (σ : mM) (Q : mA) : Prop := E1 knS d 294 (jmp 294 0) (entL 294 [(2, 279), (1, a1)]) [] σ Q zno
def m_orderOf_2 (d : Nat) (l1 l3 : Int) (σ : mM) (Q : mA) : Prop := E1 knS d 294 (jmp 294 2) [(2, 279), (1, l1), (3, 0), (0, l3)] [] σ Q zno
/-- MarkHouseModel.kindOf(J)I at (279,) -/
def m_kindOf (d : Nat) (a1 : Int) (σ : mM) (Q : mA) : Prop := E1 knS d 295 (jmp 295 0) (entL 295 [(2, 279), (1, a1)]) [] σ Q zno
def m_kindOf_2 (d : Nat) (l1 l3 : Int) (σ : mM) (Q : mA) : Prop := E1 knS d 295 (jmp 295 2) [(2, 279), (1, l1), (3, 0), (0, l3)] [] σ Q zno
/-- MarkHouseModel.doesCount(II)Z at (279,) -/
def m_doesCount (d : Nat) (a1 a2 : Int) (σ : mM) (Q : mA) : Prop := E1 knS d 345 (jmp 345 0) (entL 345 [(2, 279), (0, a1), (0, a2)]) [] σ Q zno
def m_doesCount_38 (d : Nat) (l1 l3 l5 l6 : Int) (σ : mM) (Q : mA) : Prop := E1 knS d 345 (jmp 345 38) [(2, 279), (0, l1), (3, 0), (1, l3), (3, 0), (0, l5), (0, l6), (3, 0), (3, 0), (3, 0)] [] σ Q zno
def m_doesCount_73 (d : Nat) (l1 l3 l6 : Int) (σ : mM) (Q : mA) : Prop := E1 knS d 345 (jmp 345 73) [(2, 279), (0, l1), (3, 0), (1, l3), (3, 0), (3, 0), (0, l6), (3, 0), (3, 0), (3, 0)] [] σ Q zno
def m_doesCount_96 (d : Nat) (l1 l3 l8 l9 : Int) (σ : mM) (Q : mA) : Prop := E1 knS d 345 (jmp 345 96) [(2, 279), (0, l1), (3, 0), (1, l3), (3, 0), (3, 0), (3, 0), (3, 0), (0, l8), (0, l9)] [] σ Q zno
/-- MarkHouseModel.isClass(I)Z at (279,) -/
def m_isClass (d : Nat) (a1 : Int) (σ : mM) (Q : mA) : Prop := E1 knS d 363 (jmp 363 0) (entL 363 [(2, 279), (0, a1)]) [] σ Q zno
/-- MarkHouseModel.isMethodPlace(I)Z at (279,) -/
def m_isMethodPlace (d : Nat) (a1 : Int) (σ : mM) (Q : mA) : Prop := E1 knS d 364 (jmp 364 0) (entL 364 [(2, 279), (0, a1)]) [] σ Q zno
/-- MarkHouseModel.methodAt(I)I at () -/
def m_methodAt (d : Nat) (a1 : Int) (σ : mM) (Q : mA) : Prop := E1 knS d 350 (jmp 350 0) (entL 350 [(0, a1)]) [] σ Q zno
/-- MarkHouseModel.isOrder(I)Z at (279,) -/
def m_isOrder (d : Nat) (a1 : Int) (σ : mM) (Q : mA) : Prop := E1 knS d 366 (jmp 366 0) (entL 366 [(2, 279), (0, a1)]) [] σ Q zno
/-- MarkHouseModel.below(III)Z at (279,) -/
def m_below (d : Nat) (a1 a2 a3 : Int) (σ : mM) (Q : mA) : Prop := E1 knS d 305 (jmp 305 0) (entL 305 [(2, 279), (0, a1), (0, a2), (0, a3)]) [] σ Q zno
/-- MarkHouseModel.join(III)I at (279,) -/
def m_join (d : Nat) (a1 a2 a3 : Int) (σ : mM) (Q : mA) : Prop := E1 knS d 367 (jmp 367 0) (entL 367 [(2, 279), (0, a1), (0, a2), (0, a3)]) [] σ Q zno
/-- MarkHouseModel.meet(III)I at (279,) -/
def m_meet (d : Nat) (a1 a2 a3 : Int) (σ : mM) (Q : mA) : Prop := E1 knS d 368 (jmp 368 0) (entL 368 [(2, 279), (0, a1), (0, a2), (0, a3)]) [] σ Q zno
/-- MarkHouseModel.byteHere(II)I at (279,) -/
def m_byteHere (d : Nat) (a1 a2 : Int) (σ : mM) (Q : mA) : Prop := E1 knS d 370 (jmp 370 0) (entL 370 [(2, 279), (0, a1), (0, a2)]) [] σ Q zno
/-- MarkHouseModel.fileName()J at (279,) -/
def m_fileName (d : Nat) (σ : mM) (Q : mA) : Prop := E1 knS d 371 (jmp 371 0) (entL 371 [(2, 279)]) [] σ Q zno
def m_fileName_13 (d : Nat) (l1 l2 l4 : Int) (σ : mM) (Q : mA) : Prop := E1 knS d 371 (jmp 371 13) [(2, 279), (0, l1), (1, l2), (3, 0), (0, l4), (3, 0)] [] σ Q zno
def m_fileName_64 (d : Nat) (l1 l2 l4 l5 : Int) (σ : mM) (Q : mA) : Prop := E1 knS d 371 (jmp 371 64) [(2, 279), (0, l1), (1, l2), (3, 0), (0, l4), (0, l5)] [] σ Q zno
/-- MarkHouseModel.newMark(IJZ)V at (279,) -/
def m_newMark (d : Nat) (a1 a2 a3 : Int) (σ : mM) (Q : mA) : Prop := E1 knS d 316 (jmp 316 0) (entL 316 [(2, 279), (0, a1), (1, a2), (0, a3)]) [] σ Q zno
/-- MarkHouseModel.copyMark(II)V at (279,) -/
def m_copyMark (d : Nat) (a1 a2 : Int) (σ : mM) (Q : mA) : Prop := E1 knS d 374 (jmp 374 0) (entL 374 [(2, 279), (0, a1), (0, a2)]) [] σ Q zno
def m_copyMark_34 (d : Nat) (l1 l3 l4 : Int) (σ : mM) (Q : mA) : Prop := E1 knS d 374 (jmp 374 34) [(2, 279), (0, l1), (3, 0), (0, l3), (0, l4)] [] σ Q zno
/-- MarkHouseModel.filePair(I)V at (279,) -/
def m_filePair (d : Nat) (a1 : Int) (σ : mM) (Q : mA) : Prop := E1 knS d 372 (jmp 372 0) (entL 372 [(2, 279), (0, a1)]) [] σ Q zno
def m_filePair_28 (d : Nat) (l1 l2 l4 l7 l8 : Int) (σ : mM) (Q : mA) : Prop := E1 knS d 372 (jmp 372 28) [(2, 279), (0, l1), (1, l2), (3, 0), (0, l4), (3, 0), (3, 0), (0, l7), (0, l8)] [] σ Q zno
/-- MarkHouseModel.sayFileName(J)V at (279,) -/
def m_sayFileName (d : Nat) (a1 : Int) (σ : mM) (Q : mA) : Prop := E1 knS d 376 (jmp 376 0) (entL 376 [(2, 279), (1, a1)]) [] σ Q zno
/-- MarkHouseModel.tellOrder(I)V at (279,) -/
def m_tellOrder (d : Nat) (a1 : Int) (σ : mM) (Q : mA) : Prop := E1 knS d 379 (jmp 379 0) (entL 379 [(2, 279), (0, a1)]) [] σ Q zno
def m_tellOrder_25 (d : Nat) (l1 l2 : Int) (σ : mM) (Q : mA) : Prop := E1 knS d 379 (jmp 379 25) [(2, 279), (0, l1), (0, l2), (3, 0)] [] σ Q zno
def m_tellOrder_69 (d : Nat) (l1 l2 : Int) (σ : mM) (Q : mA) : Prop := E1 knS d 379 (jmp 379 69) [(2, 279), (0, l1), (0, l2), (3, 0)] [] σ Q zno
def m_tellOrder_81 (d : Nat) (l1 l2 l3 : Int) (σ : mM) (Q : mA) : Prop := E1 knS d 379 (jmp 379 81) [(2, 279), (0, l1), (0, l2), (0, l3)] [] σ Q zno
/-- MarkHouseModel.tellKind(I)V at (279,) -/
def m_tellKind (d : Nat) (a1 : Int) (σ : mM) (Q : mA) : Prop := E1 knS d 384 (jmp 384 0) (entL 384 [(2, 279), (0, a1)]) [] σ Q zno
def m_tellKind_18 (d : Nat) (l1 l2 : Int) (σ : mM) (Q : mA) : Prop := E1 knS d 384 (jmp 384 18) [(2, 279), (0, l1), (0, l2), (3, 0)] [] σ Q zno
def m_tellKind_162 (d : Nat) (l1 : Int) (σ : mM) (Q : mA) : Prop := E1 knS d 384 (jmp 384 162) [(2, 279), (0, l1), (3, 0), (3, 0)] [] σ Q zno
def m_tellKind_48 (d : Nat) (l1 l2 l3 k0 : Int) (σ : mM) (Q : mA) : Prop := E1 knS d 384 (jmp 384 48) [(2, 279), (0, l1), (0, l2), (0, l3)] [(2, k0), (2, 279)] σ Q zno
def m_tellKind_248 (d : Nat) (l1 : Int) (σ : mM) (Q : mA) : Prop := E1 knS d 384 (jmp 384 248) [(2, 279), (0, l1), (3, 0), (3, 0)] [] σ Q zno
def m_tellKind_213 (d : Nat) (l1 : Int) (σ : mM) (Q : mA) : Prop := E1 knS d 384 (jmp 384 213) [(2, 279), (0, l1), (3, 0), (3, 0)] [] σ Q zno
def m_tellKind_85 (d : Nat) (l1 l2 l3 k0 : Int) (σ : mM) (Q : mA) : Prop := E1 knS d 384 (jmp 384 85) [(2, 279), (0, l1), (0, l2), (0, l3)] [(2, k0), (2, 279)] σ Q zno
def m_tellKind_278 (d : Nat) (l1 : Int) (σ : mM) (Q : mA) : Prop := E1 knS d 384 (jmp 384 278) [(2, 279), (0, l1), (3, 0), (3, 0)] [] σ Q zno
/-- MarkHouseModel.sayWord(Ljava/lang/String;)V at (279, 'S') -/
def m_sayWord (d : Nat) (a1 : Int) (σ : mM) (Q : mA) : Prop := E1 knS d 380 (jmp 380 0) (entL 380 [(2, 279), (2, a1)]) [] σ Q zno
def m_sayWord_6 (d : Nat) (l1 l2 : Int) (σ : mM) (Q : mA) : Prop := E1 knS d 380 (jmp 380 6) [(2, 279), (2, l1), (0, l2)] [] σ Q zno
/-- MarkHouseModel.sayName(J)V at (279,) -/
def m_sayName (d : Nat) (a1 : Int) (σ : mM) (Q : mA) : Prop := E1 knS d 382 (jmp 382 0) (entL 382 [(2, 279), (1, a1)]) [] σ Q zno
/-- MarkHouseModel.sayMarks(I)V at (279,) -/
def m_sayMarks (d : Nat) (a1 : Int) (σ : mM) (Q : mA) : Prop := E1 knS d 388 (jmp 388 0) (entL 388 [(2, 279), (0, a1)]) [] σ Q zno
def m_sayMarks_2 (d : Nat) (l1 l2 : Int) (σ : mM) (Q : mA) : Prop := E1 knS d 388 (jmp 388 2) [(2, 279), (0, l1), (0, l2)] [] σ Q zno
/-- MarkHouseModel.tellClass(I)V at (279,) -/
def m_tellClass (d : Nat) (a1 : Int) (σ : mM) (Q : mA) : Prop := E1 knS d 392 (jmp 392 0) (entL 392 [(2, 279), (0, a1)]) [] σ Q zno
def m_tellClass_64 (d : Nat) (l1 l2 : Int) (σ : mM) (Q : mA) : Prop := E1 knS d 392 (jmp 392 64) [(2, 279), (0, l1), (0, l2), (3, 0), (3, 0)] [] σ Q zno
def m_tellClass_161 (d : Nat) (l1 l2 : Int) (σ : mM) (Q : mA) : Prop := E1 knS d 392 (jmp 392 161) [(2, 279), (0, l1), (0, l2), (3, 0), (3, 0)] [] σ Q zno
def m_tellClass_201 (d : Nat) (l1 l2 l3 : Int) (σ : mM) (Q : mA) : Prop := E1 knS d 392 (jmp 392 201) [(2, 279), (0, l1), (0, l2), (0, l3), (3, 0)] [] σ Q zno
def m_tellClass_279 (d : Nat) (l1 l2 l3 : Int) (σ : mM) (Q : mA) : Prop := E1 knS d 392 (jmp 392 279) [(2, 279), (0, l1), (0, l2), (0, l3), (3, 0)] [] σ Q zno
def m_tellClass_222 (d : Nat) (l1 l2 l3 : Int) (σ : mM) (Q : mA) : Prop := E1 knS d 392 (jmp 392 222) [(2, 279), (0, l1), (0, l2), (0, l3), (3, 0)] [] σ Q zno
/-- MarkHouseModel.hasName(IIJ)Z at (279,) -/
def m_hasName (d : Nat) (a1 a2 a3 : Int) (σ : mM) (Q : mA) : Prop := E1 knS d 314 (jmp 314 0) (entL 314 [(2, 279), (0, a1), (0, a2), (1, a3)]) [] σ Q zno
def m_hasName_6 (d : Nat) (l1 l2 l3 l5 l6 : Int) (σ : mM) (Q : mA) : Prop := E1 knS d 314 (jmp 314 6) [(2, 279), (0, l1), (0, l2), (1, l3), (3, 0), (0, l5), (0, l6)] [] σ Q zno
/-- MarkHouseModel.isFlowing(I)Z at (279,) -/
def m_isFlowing (d : Nat) (a1 : Int) (σ : mM) (Q : mA) : Prop := E1 knS d 399 (jmp 399 0) (entL 399 [(2, 279), (0, a1)]) [] σ Q zno
/-- MarkHouseModel.markNow(II)I at (279,) -/
def m_markNow (d : Nat) (a1 a2 : Int) (σ : mM) (Q : mA) : Prop := E1 knS d 400 (jmp 400 0) (entL 400 [(2, 279), (0, a1), (0, a2)]) [] σ Q zno
/-- MarkHouseModel.flowAll(I)V at (279,) -/
def m_flowAll (d : Nat) (a1 : Int) (σ : mM) (Q : mA) : Prop := E1 knS d 402 (jmp 402 0) (entL 402 [(2, 279), (0, a1)]) [] σ Q zno
def m_flowAll_12 (d : Nat) (l1 l2 : Int) (σ : mM) (Q : mA) : Prop := E1 knS d 402 (jmp 402 12) [(2, 279), (0, l1), (0, l2), (3, 0), (3, 0), (3, 0), (3, 0), (3, 0)] [] σ Q zno
def m_flowAll_37 (d : Nat) (l1 l2 l3 : Int) (σ : mM) (Q : mA) : Prop := E1 knS d 402 (jmp 402 37) [(2, 279), (0, l1), (0, l2), (0, l3), (3, 0), (3, 0), (3, 0), (3, 0)] [] σ Q zno
def m_flowAll_58 (d : Nat) (l1 l2 l3 l4 l5 : Int) (σ : mM) (Q : mA) : Prop := E1 knS d 402 (jmp 402 58) [(2, 279), (0, l1), (0, l2), (0, l3), (0, l4), (0, l5), (3, 0), (3, 0)] [] σ Q zno
/-- MarkHouseModel.placeOf(I)I at () -/
def m_placeOf (d : Nat) (a1 : Int) (σ : mM) (Q : mA) : Prop := E1 knS d 351 (jmp 351 0) (entL 351 [(0, a1)]) [] σ Q zno
/-- MarkHouseModel.findMarks(I)V at (279,) -/
def m_findMarks (d : Nat) (a1 : Int) (σ : mM) (Q : mA) : Prop := E1 knS d 403 (jmp 403 0) (entL 403 [(2, 279), (0, a1)]) [] σ Q zno
def m_findMarks_2 (d : Nat) (l1 l2 : Int) (σ : mM) (Q : mA) : Prop := E1 knS d 403 (jmp 403 2) [(2, 279), (0, l1), (0, l2)] [] σ Q zno
/-- MarkHouseModel.first(II)V at (279,) -/
def m_first (d : Nat) (a1 a2 : Int) (σ : mM) (Q : mA) : Prop := E1 knS d 405 (jmp 405 0) (entL 405 [(2, 279), (0, a1), (0, a2)]) [] σ Q zno
def m_first_2 (d : Nat) (l1 l2 l3 : Int) (σ : mM) (Q : mA) : Prop := E1 knS d 405 (jmp 405 2) [(2, 279), (0, l1), (0, l2), (0, l3)] [] σ Q zno
/-- MarkHouseModel.meets(IIII)V at (279,) -/
def m_meets (d : Nat) (a1 a2 a3 a4 : Int) (σ : mM) (Q : mA) : Prop := E1 knS d 416 (jmp 416 0) (entL 416 [(2, 279), (0, a1), (0, a2), (0, a3), (0, a4)]) [] σ Q zno
def m_meets_23 (d : Nat) (l2 l3 l4 l5 l6 l7 : Int) (σ : mM) (Q : mA) : Prop := E1 knS d 416 (jmp 416 23) [(2, 279), (3, 0), (0, l2), (0, l3), (0, l4), (0, l5), (0, l6), (0, l7), (3, 0), (3, 0)] [] σ Q zno
def m_meets_152 (d : Nat) (l2 l4 l5 l6 l7 : Int) (σ : mM) (Q : mA) : Prop := E1 knS d 416 (jmp 416 152) [(2, 279), (3, 0), (0, l2), (3, 0), (0, l4), (0, l5), (0, l6), (0, l7), (3, 0), (3, 0)] [] σ Q zno
def m_meets_53 (d : Nat) (l2 l3 l4 l5 l6 l7 l8 l9 : Int) (σ : mM) (Q : mA) : Prop := E1 knS d 416 (jmp 416 53) [(2, 279), (3, 0), (0, l2), (0, l3), (0, l4), (0, l5), (0, l6), (0, l7), (0, l8), (0, l9)] [] σ Q zno
/-- MarkHouseModel.goes(IIIZ)V at (279,) -/
def m_goes (d : Nat) (a1 a2 a3 a4 : Int) (σ : mM) (Q : mA) : Prop := E1 knS d 417 (jmp 417 0) (entL 417 [(2, 279), (0, a1), (0, a2), (0, a3), (0, a4)]) [] σ Q zno
def m_goes_16 (d : Nat) (l1 l2 l3 l4 l5 l6 : Int) (σ : mM) (Q : mA) : Prop := E1 knS d 417 (jmp 417 16) [(2, 279), (0, l1), (0, l2), (0, l3), (0, l4), (0, l5), (0, l6)] [] σ Q zno
def m_goes_132 (d : Nat) (l1 l2 l3 l4 l5 : Int) (σ : mM) (Q : mA) : Prop := E1 knS d 417 (jmp 417 132) [(2, 279), (0, l1), (0, l2), (0, l3), (0, l4), (0, l5), (3, 0)] [] σ Q zno
/-- MarkHouseModel.flowOf(II)V at (279,) -/
def m_flowOf (d : Nat) (a1 a2 : Int) (σ : mM) (Q : mA) : Prop := E1 knS d 404 (jmp 404 0) (entL 404 [(2, 279), (0, a1), (0, a2)]) [] σ Q zno
def m_flowOf_8 (d : Nat) (l1 l2 l3 l4 : Int) (σ : mM) (Q : mA) : Prop := E1 knS d 404 (jmp 404 8) [(2, 279), (0, l1), (0, l2), (0, l3), (0, l4), (3, 0)] [] σ Q zno
def m_flowOf_52 (d : Nat) (l1 l2 l3 : Int) (σ : mM) (Q : mA) : Prop := E1 knS d 404 (jmp 404 52) [(2, 279), (0, l1), (0, l2), (0, l3), (3, 0), (3, 0)] [] σ Q zno
def m_flowOf_67 (d : Nat) (l1 l2 l3 l4 : Int) (σ : mM) (Q : mA) : Prop := E1 knS d 404 (jmp 404 67) [(2, 279), (0, l1), (0, l2), (0, l3), (0, l4), (3, 0)] [] σ Q zno
def m_flowOf_96 (d : Nat) (l1 l2 l3 l4 l5 : Int) (σ : mM) (Q : mA) : Prop := E1 knS d 404 (jmp 404 96) [(2, 279), (0, l1), (0, l2), (0, l3), (0, l4), (0, l5)] [] σ Q zno
def m_flowOf_169 (d : Nat) (l1 l2 l3 l4 : Int) (σ : mM) (Q : mA) : Prop := E1 knS d 404 (jmp 404 169) [(2, 279), (0, l1), (0, l2), (0, l3), (0, l4), (3, 0)] [] σ Q zno
/-- MarkHouseModel.wants(I)I at (279,) -/
def m_wants (d : Nat) (a1 : Int) (σ : mM) (Q : mA) : Prop := E1 knS d 410 (jmp 410 0) (entL 410 [(2, 279), (0, a1)]) [] σ Q zno
/-- MarkHouseModel.wantedAt(III)I at (279,) -/
def m_wantedAt (d : Nat) (a1 a2 a3 : Int) (σ : mM) (Q : mA) : Prop := E1 knS d 412 (jmp 412 0) (entL 412 [(2, 279), (0, a1), (0, a2), (0, a3)]) [] σ Q zno
/-- MarkHouseModel.fromTop(II)I at (279,) -/
def m_fromTop (d : Nat) (a1 a2 : Int) (σ : mM) (Q : mA) : Prop := E1 knS d 411 (jmp 411 0) (entL 411 [(2, 279), (0, a1), (0, a2)]) [] σ Q zno
/-- MarkHouseModel.checkAt(III)I at () -/
def m_checkAt (d : Nat) (a1 a2 a3 : Int) (σ : mM) (Q : mA) : Prop := E1 knS d 422 (jmp 422 0) (entL 422 [(0, a1), (0, a2), (0, a3)]) [] σ Q zno
/-- MarkHouseModel.sayAct(IIZZ)V at (279,) -/
def m_sayAct (d : Nat) (a1 a2 a3 a4 : Int) (σ : mM) (Q : mA) : Prop := E1 knS d 393 (jmp 393 0) (entL 393 [(2, 279), (0, a1), (0, a2), (0, a3), (0, a4)]) [] σ Q zno
def m_sayAct_308 (d : Nat) (l1 l2 l3 l4 : Int) (σ : mM) (Q : mA) : Prop := E1 knS d 393 (jmp 393 308) [(2, 279), (0, l1), (0, l2), (0, l3), (0, l4), (3, 0)] [] σ Q zno
def m_sayAct_104 (d : Nat) (l1 l2 l3 l4 : Int) (σ : mM) (Q : mA) : Prop := E1 knS d 393 (jmp 393 104) [(2, 279), (0, l1), (0, l2), (0, l3), (0, l4), (3, 0)] [] σ Q zno
def m_sayAct_204 (d : Nat) (l1 l2 l3 l4 : Int) (σ : mM) (Q : mA) : Prop := E1 knS d 393 (jmp 393 204) [(2, 279), (0, l1), (0, l2), (0, l3), (0, l4), (3, 0)] [] σ Q zno
def m_sayAct_128 (d : Nat) (l1 l2 l3 l4 l5 : Int) (σ : mM) (Q : mA) : Prop := E1 knS d 393 (jmp 393 128) [(2, 279), (0, l1), (0, l2), (0, l3), (0, l4), (0, l5)] [] σ Q zno
/-- MarkHouseModel.sayElement(II)V at (279,) -/
def m_sayElement (d : Nat) (a1 a2 : Int) (σ : mM) (Q : mA) : Prop := E1 knS d 394 (jmp 394 0) (entL 394 [(2, 279), (0, a1), (0, a2)]) [] σ Q zno
/-- MarkHouseModel.sayWhole(J)V at (279,) -/
def m_sayWhole (d : Nat) (a1 : Int) (σ : mM) (Q : mA) : Prop := E1 knS d 387 (jmp 387 0) (entL 387 [(2, 279), (1, a1)]) [] σ Q zno
/-- MarkHouseModel.frame(I)V at (279,) -/
def m_frame (d : Nat) (a1 : Int) (σ : mM) (Q : mA) : Prop := E1 knS d 427 (jmp 427 0) (entL 427 [(2, 279), (0, a1)]) [] σ Q zno
def m_frame_39 (d : Nat) (l2 l3 : Int) (σ : mM) (Q : mA) : Prop := E1 knS d 427 (jmp 427 39) [(2, 279), (3, 0), (0, l2), (0, l3)] [] σ Q zno
/-- MarkHouseModel.passes(II)Z at (279,) -/
def m_passes (d : Nat) (a1 a2 : Int) (σ : mM) (Q : mA) : Prop := E1 knS d 430 (jmp 430 0) (entL 430 [(2, 279), (0, a1), (0, a2)]) [] σ Q zno
def m_passes_2 (d : Nat) (l1 l2 l3 : Int) (σ : mM) (Q : mA) : Prop := E1 knS d 430 (jmp 430 2) [(2, 279), (0, l1), (0, l2), (0, l3), (3, 0), (3, 0)] [] σ Q zno
def m_passes_13 (d : Nat) (l1 l2 l3 l4 : Int) (σ : mM) (Q : mA) : Prop := E1 knS d 430 (jmp 430 13) [(2, 279), (0, l1), (0, l2), (0, l3), (0, l4), (3, 0)] [] σ Q zno
/-- MarkHouseModel.leaves(II)V at (279,) -/
def m_leaves (d : Nat) (a1 a2 : Int) (σ : mM) (Q : mA) : Prop := E1 knS d 431 (jmp 431 0) (entL 431 [(2, 279), (0, a1), (0, a2)]) [] σ Q zno
def m_leaves_16 (d : Nat) (l1 l2 l3 l4 : Int) (σ : mM) (Q : mA) : Prop := E1 knS d 431 (jmp 431 16) [(2, 279), (0, l1), (0, l2), (0, l3), (0, l4), (3, 0), (3, 0)] [] σ Q zno
def m_leaves_28 (d : Nat) (l1 l2 l3 l4 l5 : Int) (σ : mM) (Q : mA) : Prop := E1 knS d 431 (jmp 431 28) [(2, 279), (0, l1), (0, l2), (0, l3), (0, l4), (0, l5), (3, 0)] [] σ Q zno
/-- MarkHouseModel.perform(II)V at (279,) -/
def m_perform (d : Nat) (a1 a2 : Int) (σ : mM) (Q : mA) : Prop := E1 knS d 432 (jmp 432 0) (entL 432 [(2, 279), (0, a1), (0, a2)]) [] σ Q zno
def m_perform_719 (d : Nat) (l1 l2 l4 l5 : Int) (σ : mM) (Q : mA) : Prop := E1 knS d 432 (jmp 432 719) [(2, 279), (0, l1), (0, l2), (3, 0), (0, l4), (0, l5), (3, 0), (3, 0), (3, 0)] [] σ Q zno
def m_perform_108 (d : Nat) (l1 l2 l4 l5 : Int) (σ : mM) (Q : mA) : Prop := E1 knS d 432 (jmp 432 108) [(2, 279), (0, l1), (0, l2), (3, 0), (0, l4), (0, l5), (3, 0), (3, 0), (3, 0)] [] σ Q zno
def m_perform_260 (d : Nat) (l1 l2 l4 l5 l6 : Int) (σ : mM) (Q : mA) : Prop := E1 knS d 432 (jmp 432 260) [(2, 279), (0, l1), (0, l2), (3, 0), (0, l4), (0, l5), (0, l6), (3, 0), (3, 0)] [] σ Q zno
def m_perform_349 (d : Nat) (l1 l2 l4 l5 l6 : Int) (σ : mM) (Q : mA) : Prop := E1 knS d 432 (jmp 432 349) [(2, 279), (0, l1), (0, l2), (3, 0), (0, l4), (0, l5), (0, l6), (3, 0), (3, 0)] [] σ Q zno
def m_perform_407 (d : Nat) (l1 l2 l4 l5 : Int) (σ : mM) (Q : mA) : Prop := E1 knS d 432 (jmp 432 407) [(2, 279), (0, l1), (0, l2), (3, 0), (0, l4), (0, l5), (3, 0), (3, 0), (3, 0)] [] σ Q zno
def m_perform_692 (d : Nat) (l1 l2 l4 l5 : Int) (σ : mM) (Q : mA) : Prop := E1 knS d 432 (jmp 432 692) [(2, 279), (0, l1), (0, l2), (3, 0), (0, l4), (0, l5), (3, 0), (3, 0), (3, 0)] [] σ Q zno
def m_perform_141 (d : Nat) (l1 l2 l4 l5 l6 : Int) (σ : mM) (Q : mA) : Prop := E1 knS d 432 (jmp 432 141) [(2, 279), (0, l1), (0, l2), (3, 0), (0, l4), (0, l5), (0, l6), (3, 0), (3, 0)] [] σ Q zno
def m_perform_484 (d : Nat) (l1 l2 l4 l5 l8 : Int) (σ : mM) (Q : mA) : Prop := E1 knS d 432 (jmp 432 484) [(2, 279), (0, l1), (0, l2), (3, 0), (0, l4), (0, l5), (3, 0), (3, 0), (0, l8)] [] σ Q zno
/-- MarkHouseModel.make(I)V at (279,) -/
def m_make (d : Nat) (a1 : Int) (σ : mM) (Q : mA) : Prop := E1 knS d 441 (jmp 441 0) (entL 441 [(2, 279), (0, a1)]) [] σ Q zno
/-- MarkHouseModel.textOf(IIJ)J at (279,) -/
def m_textOf (d : Nat) (a1 a2 a3 : Int) (σ : mM) (Q : mA) : Prop := E1 knS d 440 (jmp 440 0) (entL 440 [(2, 279), (0, a1), (0, a2), (1, a3)]) [] σ Q zno
/-- MarkHouse$Teller.order(I)V at (278,) -/
def xT_order (d : Nat) (a1 : Int) (σ : mM) (Q : mA) : Prop := E1 knS d 253 (jmp 253 0) (entL 253 [(2, 278), (0, a1)]) [] σ Q zno
def xT_order_31 (d : Nat) (l1 l3 : Int) (σ : mM) (Q : mA) : Prop := E1 knS d 253 (jmp 253 31) [(2, 278), (0, l1), (2, 171), (0, l3), (3, 0)] [] σ Q zno
def xT_order_74 (d : Nat) (l1 l3 : Int) (σ : mM) (Q : mA) : Prop := E1 knS d 253 (jmp 253 74) [(2, 278), (0, l1), (2, 171), (0, l3), (3, 0)] [] σ Q zno
def xT_order_87 (d : Nat) (l1 l3 l4 : Int) (σ : mM) (Q : mA) : Prop := E1 knS d 253 (jmp 253 87) [(2, 278), (0, l1), (2, 171), (0, l3), (0, l4)] [] σ Q zno
/-- MarkHouse$Teller.kind(I)V at (278,) -/
def xT_kind (d : Nat) (a1 : Int) (σ : mM) (Q : mA) : Prop := E1 knS d 258 (jmp 258 0) (entL 258 [(2, 278), (0, a1)]) [] σ Q zno
def xT_kind_20 (d : Nat) (l1 l2 : Int) (σ : mM) (Q : mA) : Prop := E1 knS d 258 (jmp 258 20) [(2, 278), (0, l1), (0, l2), (3, 0)] [] σ Q zno
def xT_kind_221 (d : Nat) (l1 : Int) (σ : mM) (Q : mA) : Prop := E1 knS d 258 (jmp 258 221) [(2, 278), (0, l1), (3, 0), (3, 0)] [] σ Q zno
def xT_kind_186 (d : Nat) (l1 l2 : Int) (σ : mM) (Q : mA) : Prop := E1 knS d 258 (jmp 258 186) [(2, 278), (0, l1), (0, l2), (3, 0)] [] σ Q zno
def xT_kind_51 (d : Nat) (l1 l2 l3 k0 : Int) (σ : mM) (Q : mA) : Prop := E1 knS d 258 (jmp 258 51) [(2, 278), (0, l1), (0, l2), (0, l3)] [(0, k0), (2, 278)] σ Q zno
def xT_kind_257 (d : Nat) (l1 : Int) (σ : mM) (Q : mA) : Prop := E1 knS d 258 (jmp 258 257) [(2, 278), (0, l1), (3, 0), (3, 0)] [] σ Q zno
def xT_kind_94 (d : Nat) (l1 l2 l3 k0 : Int) (σ : mM) (Q : mA) : Prop := E1 knS d 258 (jmp 258 94) [(2, 278), (0, l1), (0, l2), (0, l3)] [(0, k0), (2, 278)] σ Q zno
/-- MarkHouse$Teller.word(I)V at (278,) -/
def xT_word (d : Nat) (a1 : Int) (σ : mM) (Q : mA) : Prop := E1 knS d 254 (jmp 254 0) (entL 254 [(2, 278), (0, a1)]) [] σ Q zno
/-- MarkHouse$Teller.name(J)V at (278,) -/
def xT_name (d : Nat) (a1 : Int) (σ : mM) (Q : mA) : Prop := E1 knS d 256 (jmp 256 0) (entL 256 [(2, 278), (1, a1)]) [] σ Q zno
/-- MarkHouse$Teller.sign(I)V at (278,) -/
def xT_sign (d : Nat) (a1 : Int) (σ : mM) (Q : mA) : Prop := E1 knS d 257 (jmp 257 0) (entL 257 [(2, 278), (0, a1)]) [] σ Q zno
/-- MarkHouse$Teller.marks(I)V at (278,) -/
def xT_marks (d : Nat) (a1 : Int) (σ : mM) (Q : mA) : Prop := E1 knS d 261 (jmp 261 0) (entL 261 [(2, 278), (0, a1)]) [] σ Q zno
def xT_marks_5 (d : Nat) (l1 l2 : Int) (σ : mM) (Q : mA) : Prop := E1 knS d 261 (jmp 261 5) [(2, 278), (0, l1), (0, l2), (3, 0)] [] σ Q zno
def xT_marks_64 (d : Nat) (l1 l2 : Int) (σ : mM) (Q : mA) : Prop := E1 knS d 261 (jmp 261 64) [(2, 278), (0, l1), (0, l2), (3, 0)] [] σ Q zno
/-- MarkHouse$Teller.cls(I)V at (278,) -/
def xT_cls (d : Nat) (a1 : Int) (σ : mM) (Q : mA) : Prop := E1 knS d 264 (jmp 264 0) (entL 264 [(2, 278), (0, a1)]) [] σ Q zno
def xT_cls_77 (d : Nat) (l1 l2 : Int) (σ : mM) (Q : mA) : Prop := E1 knS d 264 (jmp 264 77) [(2, 278), (0, l1), (0, l2)] [] σ Q zno
def xT_cls_169 (d : Nat) (l1 l2 : Int) (σ : mM) (Q : mA) : Prop := E1 knS d 264 (jmp 264 169) [(2, 278), (0, l1), (0, l2)] [] σ Q zno
/-- MarkHouse$Program.methodOf(I)I at () -/
def xP_methodOf (d : Nat) (a1 : Int) (σ : mM) (Q : mA) : Prop := E1 knS d 83 (jmp 83 0) (entL 83 [(0, a1)]) [] σ Q zno
/-- MarkHouse$Orders.at(III)I at () -/
def xO_at (d : Nat) (a1 a2 a3 : Int) (σ : mM) (Q : mA) : Prop := E1 knS d 103 (jmp 103 0) (entL 103 [(0, a1), (0, a2), (0, a3)]) [] σ Q zno
/-- MarkHouse$Orders.find(J)I at (171,) -/
def xO_find (d : Nat) (a1 : Int) (σ : mM) (Q : mA) : Prop := E1 knS d 104 (jmp 104 0) (entL 104 [(2, 171), (1, a1)]) [] σ Q zno
def xO_find_2 (d : Nat) (l1 l3 : Int) (σ : mM) (Q : mA) : Prop := E1 knS d 104 (jmp 104 2) [(2, 171), (1, l1), (3, 0), (0, l3)] [] σ Q zno
/-- MarkHouse$Program.kind(J)I at (170,) -/
def xP_kind (d : Nat) (a1 : Int) (σ : mM) (Q : mA) : Prop := E1 knS d 76 (jmp 76 0) (entL 76 [(2, 170), (1, a1)]) [] σ Q zno
def xP_kind_2 (d : Nat) (l1 l3 : Int) (σ : mM) (Q : mA) : Prop := E1 knS d 76 (jmp 76 2) [(2, 170), (1, l1), (3, 0), (0, l3)] [] σ Q zno
/-- MarkHouse$Marks.many(IJ)I at (180,) -/
def xM_many (d : Nat) (a1 a2 : Int) (σ : mM) (Q : mA) : Prop := E1 knS d 112 (jmp 112 0) (entL 112 [(2, 180), (0, a1), (1, a2)]) [] σ Q zno
def xM_many_6 (d : Nat) (l1 l2 l4 l5 : Int) (σ : mM) (Q : mA) : Prop := E1 knS d 112 (jmp 112 6) [(2, 180), (0, l1), (1, l2), (3, 0), (0, l4), (0, l5)] [] σ Q zno
/-- MarkHouse$Weaver.clear()V at (261,) -/
def xV_clear (d : Nat) (σ : mM) (Q : mA) : Prop := E1 knS d 215 (jmp 215 0) (entL 215 [(2, 261)]) [] σ Q zno
def xV_clear_2 (d : Nat) (l1 : Int) (σ : mM) (Q : mA) : Prop := E1 knS d 215 (jmp 215 2) [(2, 261), (0, l1)] [] σ Q zno
/-- MarkHouse$Machine.stop()V at (263,) -/
def xC_stop (d : Nat) (σ : mM) (Q : mA) : Prop := E1 knS d 218 (jmp 218 0) (entL 218 [(2, 263)]) [] σ Q zno
/-- MarkHouse$Wirer.clear()V at (273,) -/
def xI_clear (d : Nat) (σ : mM) (Q : mA) : Prop := E1 knS d 242 (jmp 242 0) (entL 242 [(2, 273)]) [] σ Q zno
/-- MarkHouse$Attributes.read(I)I at (234,) -/
def xA_read (d : Nat) (a1 : Int) (σ : mM) (Q : mA) : Prop := E1 knS d 181 (jmp 181 0) (entL 181 [(2, 234), (0, a1)]) [] σ Q zno
def xA_read_30 (d : Nat) (l1 l2 l3 : Int) (σ : mM) (Q : mA) : Prop := E1 knS d 181 (jmp 181 30) [(2, 234), (0, l1), (0, l2), (0, l3), (3, 0), (3, 0), (3, 0), (3, 0), (3, 0)] [] σ Q zno
def xA_read_179 (d : Nat) (σ : mM) (Q : mA) : Prop := E1 knS d 181 (jmp 181 179) [(2, 234), (3, 0), (3, 0), (3, 0), (3, 0), (3, 0), (3, 0), (3, 0), (3, 0)] [] σ Q zno
def xA_read_113 (d : Nat) (l1 l2 l3 l4 : Int) (σ : mM) (Q : mA) : Prop := E1 knS d 181 (jmp 181 113) [(2, 234), (0, l1), (0, l2), (0, l3), (1, l4), (3, 0), (3, 0), (3, 0), (3, 0)] [] σ Q zno
def xA_read_147 (d : Nat) (l1 l2 l3 l6 l7 l8 : Int) (σ : mM) (Q : mA) : Prop := E1 knS d 181 (jmp 181 147) [(2, 234), (0, l1), (0, l2), (0, l3), (3, 0), (3, 0), (0, l6), (0, l7), (0, l8)] [] σ Q zno
/-- MarkHouse$Marks.copy(II)V at (180,) -/
def xM_copy (d : Nat) (a1 a2 : Int) (σ : mM) (Q : mA) : Prop := E1 knS d 117 (jmp 117 0) (entL 117 [(2, 180), (0, a1), (0, a2)]) [] σ Q zno
def xM_copy_26 (d : Nat) (l1 l2 l3 : Int) (σ : mM) (Q : mA) : Prop := E1 knS d 117 (jmp 117 26) [(2, 180), (0, l1), (0, l2), (0, l3)] [] σ Q zno
/-- MarkHouse$Bytes.add(I)V at (159,) -/
def xB_add' (d : Nat) (a1 : Int) (σ : mM) (Q : mA) : Prop := E1 knS d 46 (jmp 46 0) (entL 46 [(2, 159), (0, a1)]) [] σ Q zno
/-- MarkHouse$Attributes.put(LMarkHouse$Bytes;J)V at (159,) -/
def xA_put (d : Nat) (a2 : Int) (σ : mM) (Q : mA) : Prop := E1 knS d 188 (jmp 188 0) (entL 188 [(2, 159), (1, a2)]) [] σ Q zno
/-- MarkHouse$Passing.isKind(I)Z at (226,) -/
def xS_isKind (d : Nat) (a1 : Int) (σ : mM) (Q : mA) : Prop := E1 knS d 162 (jmp 162 0) (entL 162 [(2, 226), (0, a1)]) [] σ Q zno
/-- MarkHouse$Passing.name(I)J at (226,) -/
def xS_name (d : Nat) (a1 : Int) (σ : mM) (Q : mA) : Prop := E1 knS d 164 (jmp 164 0) (entL 164 [(2, 226), (0, a1)]) [] σ Q zno
/-- MarkHouse$Passing.own(IJ)Z at (226,) -/
def xS_own (d : Nat) (a1 a2 : Int) (σ : mM) (Q : mA) : Prop := E1 knS d 165 (jmp 165 0) (entL 165 [(2, 226), (0, a1), (1, a2)]) [] σ Q zno
def xS_own_23 (d : Nat) (l1 l2 l4 : Int) (σ : mM) (Q : mA) : Prop := E1 knS d 165 (jmp 165 23) [(2, 226), (0, l1), (1, l2), (3, 0), (0, l4), (3, 0)] [] σ Q zno
/-- MarkHouse$Passing.gives(IIJ)Z at (226,) -/
def xS_gives (d : Nat) (a1 a2 a3 : Int) (σ : mM) (Q : mA) : Prop := E1 knS d 166 (jmp 166 0) (entL 166 [(2, 226), (0, a1), (0, a2), (1, a3)]) [] σ Q zno
def xS_gives_14 (d : Nat) (l1 l2 l3 l5 : Int) (σ : mM) (Q : mA) : Prop := E1 knS d 166 (jmp 166 14) [(2, 226), (0, l1), (0, l2), (1, l3), (3, 0), (0, l5), (3, 0)] [] σ Q zno
/-- MarkHouse$Passing.isStopped(IJ)Z at (226,) -/
def xS_isStopped (d : Nat) (a1 a2 : Int) (σ : mM) (Q : mA) : Prop := E1 knS d 167 (jmp 167 0) (entL 167 [(2, 226), (0, a1), (1, a2)]) [] σ Q zno
def xS_isStopped_3 (d : Nat) (l1 l2 l4 : Int) (σ : mM) (Q : mA) : Prop := E1 knS d 167 (jmp 167 3) [(2, 226), (0, l1), (1, l2), (3, 0), (0, l4), (3, 0)] [] σ Q zno
/-- MarkHouse$Program.above(I)I at (170,) -/
def xP_above (d : Nat) (a1 : Int) (σ : mM) (Q : mA) : Prop := E1 knS d 84 (jmp 84 0) (entL 84 [(2, 170), (0, a1)]) [] σ Q zno
/-- MarkHouse$Marks.pair(IJ)I at (180,) -/
def xM_pair (d : Nat) (a1 a2 : Int) (σ : mM) (Q : mA) : Prop := E1 knS d 114 (jmp 114 0) (entL 114 [(2, 180), (0, a1), (1, a2)]) [] σ Q zno
def xM_pair_3 (d : Nat) (l1 l2 l4 : Int) (σ : mM) (Q : mA) : Prop := E1 knS d 114 (jmp 114 3) [(2, 180), (0, l1), (1, l2), (3, 0), (0, l4)] [] σ Q zno
/-- MarkHouse$Bytes.addDigits(J)V at (159,) -/
def xB_addDigits (d : Nat) (a1 : Int) (σ : mM) (Q : mA) : Prop := E1 knS d 53 (jmp 53 0) (entL 53 [(2, 159), (1, a1)]) [] σ Q zno
def xB_addDigits_2 (d : Nat) (l1 l3 : Int) (σ : mM) (Q : mA) : Prop := E1 knS d 53 (jmp 53 2) [(2, 159), (1, l1), (3, 0), (1, l3), (3, 0)] [] σ Q zno
def xB_addDigits_21 (d : Nat) (l1 l3 : Int) (σ : mM) (Q : mA) : Prop := E1 knS d 53 (jmp 53 21) [(2, 159), (1, l1), (3, 0), (1, l3), (3, 0)] [] σ Q zno
/-- MarkHouse$Orders.element(IJ)I at (171,) -/
def xO_element (d : Nat) (a1 a2 : Int) (σ : mM) (Q : mA) : Prop := E1 knS d 105 (jmp 105 0) (entL 105 [(2, 171), (0, a1), (1, a2)]) [] σ Q zno
def xO_element_3 (d : Nat) (l1 l2 l4 : Int) (σ : mM) (Q : mA) : Prop := E1 knS d 105 (jmp 105 3) [(2, 171), (0, l1), (1, l2), (3, 0), (0, l4)] [] σ Q zno
/-- MarkHouse$Passing.round()Z at (226,) -/
def xS_round (d : Nat) (σ : mM) (Q : mA) : Prop := E1 knS d 176 (jmp 176 0) (entL 176 [(2, 226)]) [] σ Q zno
def xS_round_4 (d : Nat) (l1 l2 : Int) (σ : mM) (Q : mA) : Prop := E1 knS d 176 (jmp 176 4) [(2, 226), (0, l1), (0, l2), (3, 0)] [] σ Q zno
def xS_round_78 (d : Nat) (l1 l2 : Int) (σ : mM) (Q : mA) : Prop := E1 knS d 176 (jmp 176 78) [(2, 226), (0, l1), (0, l2), (3, 0)] [] σ Q zno
def xS_round_17 (d : Nat) (l1 l2 l3 : Int) (σ : mM) (Q : mA) : Prop := E1 knS d 176 (jmp 176 17) [(2, 226), (0, l1), (0, l2), (0, l3)] [] σ Q zno
def xS_round_91 (d : Nat) (l1 l2 l3 : Int) (σ : mM) (Q : mA) : Prop := E1 knS d 176 (jmp 176 91) [(2, 226), (0, l1), (0, l2), (0, l3)] [] σ Q zno
/-- MarkHouse$Flow.load(I)V at (235,) -/
def xF_load (d : Nat) (a1 : Int) (σ : mM) (Q : mA) : Prop := E1 knS d 192 (jmp 192 0) (entL 192 [(2, 235), (0, a1)]) [] σ Q zno
def xF_load_7 (d : Nat) (l1 l2 : Int) (σ : mM) (Q : mA) : Prop := E1 knS d 192 (jmp 192 7) [(2, 235), (0, l1), (0, l2)] [] σ Q zno
/-- MarkHouse$Flow.flowAll()V at (235,) -/
def xF_flowAll (d : Nat) (σ : mM) (Q : mA) : Prop := E1 knS d 193 (jmp 193 0) (entL 193 [(2, 235)]) [] σ Q zno
def xF_flowAll_2 (d : Nat) (l1 : Int) (σ : mM) (Q : mA) : Prop := E1 knS d 193 (jmp 193 2) [(2, 235), (0, l1)] [] σ Q zno
/-- MarkHouse$Flow.isMethod(I)Z at (235,) -/
def xF_isMethod (d : Nat) (a1 : Int) (σ : mM) (Q : mA) : Prop := E1 knS d 194 (jmp 194 0) (entL 194 [(2, 235), (0, a1)]) [] σ Q zno
/-- MarkHouse$Flow.look(I)V at (235,) -/
def xF_look (d : Nat) (a1 : Int) (σ : mM) (Q : mA) : Prop := E1 knS d 200 (jmp 200 0) (entL 200 [(2, 235), (0, a1)]) [] σ Q zno
def xF_look_2 (d : Nat) (l1 l2 : Int) (σ : mM) (Q : mA) : Prop := E1 knS d 200 (jmp 200 2) [(2, 235), (0, l1), (0, l2), (3, 0), (3, 0)] [] σ Q zno
/-- MarkHouse$Flow.first(I[BI)V at (235, 259) -/
def xF_first (d : Nat) (a1 a3 : Int) (σ : mM) (Q : mA) : Prop := E1 knS d 196 (jmp 196 0) (entL 196 [(2, 235), (0, a1), (2, 259), (0, a3)]) [] σ Q zno
def xF_first_3 (d : Nat) (l1 l3 l4 : Int) (σ : mM) (Q : mA) : Prop := E1 knS d 196 (jmp 196 3) [(2, 235), (0, l1), (2, 259), (0, l3), (0, l4)] [] σ Q zno
def xF_first_26 (d : Nat) (l1 l3 l4 : Int) (σ : mM) (Q : mA) : Prop := E1 knS d 196 (jmp 196 26) [(2, 235), (0, l1), (2, 259), (0, l3), (0, l4)] [] σ Q zno
/-- MarkHouse$Ways.meet(III)V at (255,) -/
def xW_meet (d : Nat) (a1 a2 a3 : Int) (σ : mM) (Q : mA) : Prop := E1 knS d 208 (jmp 208 0) (entL 208 [(2, 255), (0, a1), (0, a2), (0, a3)]) [] σ Q zno
def xW_meet_19 (d : Nat) (l1 l2 l3 l4 : Int) (σ : mM) (Q : mA) : Prop := E1 knS d 208 (jmp 208 19) [(2, 255), (0, l1), (0, l2), (0, l3), (0, l4)] [] σ Q zno
/-- MarkHouse$Ways.go(II)V at (255,) -/
def xW_go (d : Nat) (a1 a2 : Int) (σ : mM) (Q : mA) : Prop := E1 knS d 210 (jmp 210 0) (entL 210 [(2, 255), (0, a1), (0, a2)]) [] σ Q zno
def xW_go_77 (d : Nat) (l1 l2 l3 l4 l5 : Int) (σ : mM) (Q : mA) : Prop := E1 knS d 210 (jmp 210 77) [(2, 255), (0, l1), (0, l2), (0, l3), (0, l4), (0, l5)] [] σ Q zno
def xW_go_118 (d : Nat) (l1 l2 l3 l4 l5 : Int) (σ : mM) (Q : mA) : Prop := E1 knS d 210 (jmp 210 118) [(2, 255), (0, l1), (0, l2), (0, l3), (0, l4), (0, l5)] [] σ Q zno
/-- MarkHouse$Program.isRow(I)Z at (170,) -/
def xP_isRow (d : Nat) (a1 : Int) (σ : mM) (Q : mA) : Prop := E1 knS d 89 (jmp 89 0) (entL 89 [(2, 170), (0, a1)]) [] σ Q zno
/-- MarkHouse$Flow.load(I)V at (245,) -/
def xF_load' (d : Nat) (a1 : Int) (σ : mM) (Q : mA) : Prop := E1 knS d 192 (jmp 192 0) (entL 192 [(2, 245), (0, a1)]) [] σ Q zno
def xF_load'_7 (d : Nat) (l1 l2 : Int) (σ : mM) (Q : mA) : Prop := E1 knS d 192 (jmp 192 7) [(2, 245), (0, l1), (0, l2)] [] σ Q zno
/-- MarkHouse$Flow.flowAll()V at (245,) -/
def xF_flowAll' (d : Nat) (σ : mM) (Q : mA) : Prop := E1 knS d 193 (jmp 193 0) (entL 193 [(2, 245)]) [] σ Q zno
def xF_flowAll'_2 (d : Nat) (l1 : Int) (σ : mM) (Q : mA) : Prop := E1 knS d 193 (jmp 193 2) [(2, 245), (0, l1)] [] σ Q zno
/-- MarkHouse$Flow.isMethod(I)Z at (245,) -/
def xF_isMethod' (d : Nat) (a1 : Int) (σ : mM) (Q : mA) : Prop := E1 knS d 194 (jmp 194 0) (entL 194 [(2, 245), (0, a1)]) [] σ Q zno
/-- MarkHouse$Flow.isReached(I)Z at (245,) -/
def xF_isReached' (d : Nat) (a1 : Int) (σ : mM) (Q : mA) : Prop := E1 knS d 199 (jmp 199 0) (entL 199 [(2, 245), (0, a1)]) [] σ Q zno
/-- MarkHouse$Flow.raise(I)Z at (245,) -/
def xF_raise (d : Nat) (a1 : Int) (σ : mM) (Q : mA) : Prop := E1 knS d 205 (jmp 205 0) (entL 205 [(2, 245), (0, a1)]) [] σ Q zno
def xF_raise_4 (d : Nat) (l1 l2 l3 : Int) (σ : mM) (Q : mA) : Prop := E1 knS d 205 (jmp 205 4) [(2, 245), (0, l1), (0, l2), (0, l3), (3, 0), (3, 0)] [] σ Q zno
/-- MarkHouse$Flow.find(I)I at (245,) -/
def xF_find' (d : Nat) (a1 : Int) (σ : mM) (Q : mA) : Prop := E1 knS d 191 (jmp 191 0) (entL 191 [(2, 245), (0, a1)]) [] σ Q zno
def xF_find'_16 (d : Nat) (l2 : Int) (σ : mM) (Q : mA) : Prop := E1 knS d 191 (jmp 191 16) [(2, 245), (3, 0), (0, l2), (3, 0)] [] σ Q zno
def xF_find'_38 (d : Nat) (l2 l3 : Int) (σ : mM) (Q : mA) : Prop := E1 knS d 191 (jmp 191 38) [(2, 245), (3, 0), (0, l2), (0, l3)] [] σ Q zno
/-- MarkHouse$Teller.act(IZZ)V at (278,) -/
def xT_act (d : Nat) (a1 a2 a3 : Int) (σ : mM) (Q : mA) : Prop := E1 knS d 266 (jmp 266 0) (entL 266 [(2, 278), (0, a1), (0, a2), (0, a3)]) [] σ Q zno
def xT_act_222 (d : Nat) (l1 l2 l3 : Int) (σ : mM) (Q : mA) : Prop := E1 knS d 266 (jmp 266 222) [(2, 278), (0, l1), (0, l2), (0, l3), (3, 0), (3, 0)] [] σ Q zno
def xT_act_129 (d : Nat) (l1 l2 l3 : Int) (σ : mM) (Q : mA) : Prop := E1 knS d 266 (jmp 266 129) [(2, 278), (0, l1), (0, l2), (0, l3), (3, 0), (3, 0)] [] σ Q zno
def xT_act_161 (d : Nat) (l1 l2 l3 : Int) (σ : mM) (Q : mA) : Prop := E1 knS d 266 (jmp 266 161) [(2, 278), (0, l1), (0, l2), (0, l3), (3, 0), (3, 0)] [] σ Q zno
/-- MarkHouse$Teller.blank()V at (278,) -/
def xT_blank (d : Nat) (σ : mM) (Q : mA) : Prop := E1 knS d 255 (jmp 255 0) (entL 255 [(2, 278)]) [] σ Q zno
/-- MarkHouse$Bytes.addWord(Ljava/lang/String;)V at (159, 'S') -/
def xB_addWord (d : Nat) (a1 : Int) (σ : mM) (Q : mA) : Prop := E1 knS d 51 (jmp 51 0) (entL 51 [(2, 159), (2, a1)]) [] σ Q zno
def xB_addWord_2 (d : Nat) (l1 l2 : Int) (σ : mM) (Q : mA) : Prop := E1 knS d 51 (jmp 51 2) [(2, 159), (2, l1), (0, l2)] [] σ Q zno
/-- MarkHouse$Teller.element(III)V at (278,) -/
def xT_element (d : Nat) (a1 a2 a3 : Int) (σ : mM) (Q : mA) : Prop := E1 knS d 268 (jmp 268 0) (entL 268 [(2, 278), (0, a1), (0, a2), (0, a3)]) [] σ Q zno
def xT_element_9 (d : Nat) (l2 l3 : Int) (σ : mM) (Q : mA) : Prop := E1 knS d 268 (jmp 268 9) [(2, 278), (3, 0), (0, l2), (0, l3)] [] σ Q zno
/-- MarkHouse$Flow.below(II)I at (245,) -/
def xF_below (d : Nat) (a1 a2 : Int) (σ : mM) (Q : mA) : Prop := E1 knS d 203 (jmp 203 0) (entL 203 [(2, 245), (0, a1), (0, a2)]) [] σ Q zno
/-- MarkHouse$Teller.number(I)V at (278,) -/
def xT_number (d : Nat) (a1 : Int) (σ : mM) (Q : mA) : Prop := E1 knS d 260 (jmp 260 0) (entL 260 [(2, 278), (0, a1)]) [] σ Q zno
def xT_number_10 (d : Nat) (l1 : Int) (σ : mM) (Q : mA) : Prop := E1 knS d 260 (jmp 260 10) [(2, 278), (0, l1)] [] σ Q zno
/-- MarkHouse$Machine.mark(II)I at (263,) -/
def xC_mark (d : Nat) (a1 a2 : Int) (σ : mM) (Q : mA) : Prop := E1 knS d 222 (jmp 222 0) (entL 222 [(2, 263), (0, a1), (0, a2)]) [] σ Q zno
/-- MarkHouse$Wirer.make(I)V at (273,) -/
def xI_make (d : Nat) (a1 : Int) (σ : mM) (Q : mA) : Prop := E1 knS d 245 (jmp 245 0) (entL 245 [(2, 273), (0, a1)]) [] σ Q zno
/-- MarkHouse$Wirer.value(IJIJ)J at (273,) -/
def xI_value (d : Nat) (a1 a2 a3 a4 : Int) (σ : mM) (Q : mA) : Prop := E1 knS d 244 (jmp 244 0) (entL 244 [(2, 273), (0, a1), (1, a2), (0, a3), (1, a4)]) [] σ Q zno
/-- MarkHouse$Marks.clear()V at (180,) -/
def xM_clear (d : Nat) (σ : mM) (Q : mA) : Prop := E1 knS d 118 (jmp 118 0) (entL 118 [(2, 180)]) [] σ Q zno
def xM_clear_2 (d : Nat) (l1 : Int) (σ : mM) (Q : mA) : Prop := E1 knS d 118 (jmp 118 2) [(2, 180), (0, l1)] [] σ Q zno
/-- MarkHouse$Bytes.at(I)I at (157,) -/
def xB_at' (d : Nat) (a1 : Int) (σ : mM) (Q : mA) : Prop := E1 knS d 49 (jmp 49 0) (entL 49 [(2, 157), (0, a1)]) [] σ Q zno
/-- MarkHouse$Lexemes.one(I)I at (162,) -/
def xL_one (d : Nat) (a1 : Int) (σ : mM) (Q : mA) : Prop := E1 knS d 63 (jmp 63 0) (entL 63 [(2, 162), (0, a1)]) [] σ Q zno
/-- MarkHouse$Fault.fail(II)V at (161,) -/
def xE_fail (d : Nat) (a1 a2 : Int) (σ : mM) (Q : mA) (Z : mM → Prop) : Prop := E1 knS d 57 (jmp 57 0) (entL 57 [(2, 161), (0, a1), (0, a2)]) [] σ Q Z
/-- MarkHouse$Reader.takesWord(I)Z at (224,) -/
def xR_takesWord (d : Nat) (a1 : Int) (σ : mM) (Q : mA) : Prop := E1 knS d 121 (jmp 121 0) (entL 121 [(2, 224), (0, a1)]) [] σ Q zno
/-- MarkHouse$Reader.order()V at (224,) -/
def xR_order (d : Nat) (σ : mM) (Q : mA) (Z : mM → Prop) : Prop := E1 knS d 122 (jmp 122 0) (entL 122 [(2, 224)]) [] σ Q Z
def xR_order_39 (d : Nat) (l2 l3 l5 : Int) (σ : mM) (Q : mA) (Z : mM → Prop) : Prop := E1 knS d 122 (jmp 122 39) [(2, 224), (2, 171), (0, l2), (1, l3), (3, 0), (0, l5), (3, 0)] [] σ Q Z
/-- MarkHouse$Reader.kind()V at (224,) -/
def xR_kind (d : Nat) (σ : mM) (Q : mA) (Z : mM → Prop) : Prop := E1 knS d 130 (jmp 130 0) (entL 130 [(2, 224)]) [] σ Q Z
def xR_kind_65 (d : Nat) (l1 l2 : Int) (σ : mM) (Q : mA) (Z : mM → Prop) : Prop := E1 knS d 130 (jmp 130 65) [(2, 224), (0, l1), (1, l2), (3, 0), (3, 0)] [] σ Q Z
def xR_kind_38 (d : Nat) (l1 l2 l4 : Int) (σ : mM) (Q : mA) (Z : mM → Prop) : Prop := E1 knS d 130 (jmp 130 38) [(2, 224), (0, l1), (1, l2), (3, 0), (0, l4)] [] σ Q Z
def xR_kind_155 (d : Nat) (l1 l2 : Int) (σ : mM) (Q : mA) (Z : mM → Prop) : Prop := E1 knS d 130 (jmp 130 155) [(2, 224), (0, l1), (1, l2), (3, 0), (3, 0)] [] σ Q Z
def xR_kind_113 (d : Nat) (l1 l2 : Int) (σ : mM) (Q : mA) (Z : mM → Prop) : Prop := E1 knS d 130 (jmp 130 113) [(2, 224), (0, l1), (1, l2), (3, 0), (3, 0)] [] σ Q Z
def xR_kind_219 (d : Nat) (l1 l2 : Int) (σ : mM) (Q : mA) (Z : mM → Prop) : Prop := E1 knS d 130 (jmp 130 219) [(2, 224), (0, l1), (1, l2), (3, 0), (3, 0)] [] σ Q Z
/-- MarkHouse$Lexemes.isWord(I)Z at (162,) -/
def xL_isWord (d : Nat) (a1 : Int) (σ : mM) (Q : mA) : Prop := E1 knS d 69 (jmp 69 0) (entL 69 [(2, 162), (0, a1)]) [] σ Q zno
/-- MarkHouse$Reader.must(ZI)V at (224,) -/
def xR_must (d : Nat) (a1 a2 : Int) (σ : mM) (Q : mA) (Z : mM → Prop) : Prop := E1 knS d 125 (jmp 125 0) (entL 125 [(2, 224), (0, a1), (0, a2)]) [] σ Q Z
/-- MarkHouse$Reader.maker()V at (224,) -/
def xR_maker (d : Nat) (σ : mM) (Q : mA) (Z : mM → Prop) : Prop := E1 knS d 137 (jmp 137 0) (entL 137 [(2, 224)]) [] σ Q Z
def xR_maker_47 (d : Nat) (l1 l2 l4 k0 : Int) (σ : mM) (Q : mA) (Z : mM → Prop) : Prop := E1 knS d 137 (jmp 137 47) [(2, 224), (0, l1), (1, l2), (3, 0), (0, l4)] [(0, k0), (2, 224)] σ Q Z
/-- MarkHouse$Lexemes.kind()I at (162,) -/
def xL_kind (d : Nat) (σ : mM) (Q : mA) : Prop := E1 knS d 72 (jmp 72 0) (entL 72 [(2, 162)]) [] σ Q zno
/-- MarkHouse$Reader.cls()V at (224,) -/
def xR_cls (d : Nat) (σ : mM) (Q : mA) (Z : mM → Prop) : Prop := E1 knS d 139 (jmp 139 0) (entL 139 [(2, 224)]) [] σ Q Z
def xR_cls_111 (d : Nat) (l1 l2 : Int) (σ : mM) (Q : mA) (Z : mM → Prop) : Prop := E1 knS d 139 (jmp 139 111) [(2, 224), (0, l1), (1, l2), (3, 0)] [] σ Q Z
def xR_cls_136 (d : Nat) (l1 : Int) (σ : mM) (Q : mA) (Z : mM → Prop) : Prop := E1 knS d 139 (jmp 139 136) [(2, 224), (0, l1), (3, 0), (3, 0)] [] σ Q Z
/-- MarkHouse$Reader.isMethod(I)Z at (224,) -/
def xR_isMethod (d : Nat) (a1 : Int) (σ : mM) (Q : mA) : Prop := E1 knS d 152 (jmp 152 0) (entL 152 [(2, 224), (0, a1)]) [] σ Q zno
/-- MarkHouse$Reader.resolve(I)V at (224,) -/
def xR_resolve (d : Nat) (a1 : Int) (σ : mM) (Q : mA) (Z : mM → Prop) : Prop := E1 knS d 153 (jmp 153 0) (entL 153 [(2, 224), (0, a1)]) [] σ Q Z
def xR_resolve_20 (d : Nat) (l1 l2 : Int) (σ : mM) (Q : mA) (Z : mM → Prop) : Prop := E1 knS d 153 (jmp 153 20) [(2, 224), (0, l1), (0, l2), (3, 0), (3, 0)] [] σ Q Z
def xR_resolve_133 (d : Nat) (l1 l2 l3 l4 : Int) (σ : mM) (Q : mA) (Z : mM → Prop) : Prop := E1 knS d 153 (jmp 153 133) [(2, 224), (0, l1), (0, l2), (0, l3), (0, l4)] [] σ Q Z
def xR_resolve_188 (d : Nat) (l1 l2 l3 l4 : Int) (σ : mM) (Q : mA) (Z : mM → Prop) : Prop := E1 knS d 153 (jmp 153 188) [(2, 224), (0, l1), (0, l2), (0, l3), (0, l4)] [] σ Q Z
def xR_resolve_256 (d : Nat) (l1 l2 l3 k0 k1 : Int) (σ : mM) (Q : mA) (Z : mM → Prop) : Prop := E1 knS d 153 (jmp 153 256) [(2, 224), (0, l1), (0, l2), (0, l3), (3, 0)] [(0, k0), (0, k1), (2, 210)] σ Q Z
/-- MarkHouse$Reader.measure(I)V at (224,) -/
def xR_measure (d : Nat) (a1 : Int) (σ : mM) (Q : mA) (Z : mM → Prop) : Prop := E1 knS d 154 (jmp 154 0) (entL 154 [(2, 224), (0, a1)]) [] σ Q Z
def xR_measure_7 (d : Nat) (l1 l2 l3 : Int) (σ : mM) (Q : mA) (Z : mM → Prop) : Prop := E1 knS d 154 (jmp 154 7) [(2, 224), (0, l1), (0, l2), (0, l3), (3, 0), (3, 0), (3, 0)] [] σ Q Z
def xR_measure_57 (d : Nat) (l1 l2 l3 : Int) (σ : mM) (Q : mA) (Z : mM → Prop) : Prop := E1 knS d 154 (jmp 154 57) [(2, 224), (0, l1), (0, l2), (0, l3), (3, 0), (3, 0), (3, 0)] [] σ Q Z
def xR_measure_164 (d : Nat) (l1 l2 l3 l4 l5 k0 : Int) (σ : mM) (Q : mA) (Z : mM → Prop) : Prop := E1 knS d 154 (jmp 154 164) [(2, 224), (0, l1), (0, l2), (0, l3), (0, l4), (0, l5), (3, 0)] [(0, k0), (2, 224)] σ Q Z
def xR_measure_222 (d : Nat) (l1 l2 l4 l5 l6 : Int) (σ : mM) (Q : mA) (Z : mM → Prop) : Prop := E1 knS d 154 (jmp 154 222) [(2, 224), (0, l1), (0, l2), (3, 0), (0, l4), (0, l5), (0, l6)] [] σ Q Z
/-- MarkHouse$Machine.enter(I)V at (263,) -/
def xC_enter (d : Nat) (a1 : Int) (σ : mM) (Q : mA) : Prop := E1 knS d 224 (jmp 224 0) (entL 224 [(2, 263), (0, a1)]) [] σ Q zno
def xC_enter_33 (d : Nat) (l2 l3 : Int) (σ : mM) (Q : mA) : Prop := E1 knS d 224 (jmp 224 33) [(2, 263), (3, 0), (0, l2), (0, l3)] [] σ Q zno
/-- MarkHouse$Machine.one()Z at (263,) -/
def xC_one (d : Nat) (σ : mM) (Q : mA) : Prop := E1 knS d 226 (jmp 226 0) (entL 226 [(2, 263)]) [] σ Q zno
def xC_one_59 (d : Nat) (l1 l2 : Int) (σ : mM) (Q : mA) : Prop := E1 knS d 226 (jmp 226 59) [(2, 263), (0, l1), (0, l2)] [] σ Q zno
/-- MarkHouseModel.lexeme(IIJ)V at (279,) -/
def m_lexeme (d : Nat) (a1 a2 a3 : Int) (σ : mM) (Q : mA) : Prop := E1 knS d 284 (jmp 284 0) (entL 284 [(2, 279), (0, a1), (0, a2), (1, a3)]) [] σ Q zno
/-- MarkHouseModel.isLetter(I)Z at () -/
def m_isLetter (d : Nat) (a1 : Int) (σ : mM) (Q : mA) : Prop := E1 knS d 279 (jmp 279 0) (entL 279 [(0, a1)]) [] σ Q zno
/-- MarkHouseModel.isDigit(I)Z at () -/
def m_isDigit (d : Nat) (a1 : Int) (σ : mM) (Q : mA) : Prop := E1 knS d 280 (jmp 280 0) (entL 280 [(0, a1)]) [] σ Q zno
/-- MarkHouseModel.isSign(I)Z at () -/
def m_isSign (d : Nat) (a1 : Int) (σ : mM) (Q : mA) : Prop := E1 knS d 285 (jmp 285 0) (entL 285 [(0, a1)]) [] σ Q zno
/-- MarkHouseModel.fault(II)V at (279,) -/
def m_fault0 (d : Nat) (a1 a2 : Int) (σ : mM) (Q : mA) : Prop := E1 knS d 281 (jmp 281 0) (entL 281 [(2, 279), (0, a1), (0, a2)]) [] σ Q zno
/-- MarkHouseModel.wordOf(J)I at (279,) -/
def m_wordOf (d : Nat) (a1 : Int) (σ : mM) (Q : mA) : Prop := E1 knS d 282 (jmp 282 0) (entL 282 [(2, 279), (1, a1)]) [] σ Q zno
def m_wordOf_2 (d : Nat) (l1 l3 : Int) (σ : mM) (Q : mA) : Prop := E1 knS d 282 (jmp 282 2) [(2, 279), (1, l1), (3, 0), (0, l3)] [] σ Q zno
/-- MarkHouseModel.mayWord(I)Z at (279,) -/
def m_mayWord (d : Nat) (a1 : Int) (σ : mM) (Q : mA) : Prop := E1 knS d 287 (jmp 287 0) (entL 287 [(2, 279), (0, a1)]) [] σ Q zno
/-- MarkHouseModel.readOrder()V at (279,) -/
def m_readOrder (d : Nat) (σ : mM) (Q : mA) : Prop := E1 knS d 289 (jmp 289 0) (entL 289 [(2, 279)]) [] σ Q zno
def m_readOrder_46 (d : Nat) (l1 l2 l4 l5 : Int) (σ : mM) (Q : mA) : Prop := E1 knS d 289 (jmp 289 46) [(2, 279), (0, l1), (1, l2), (3, 0), (0, l4), (0, l5), (3, 0), (3, 0)] [] σ Q zno
def m_readOrder_105 (d : Nat) (l1 l2 l4 l5 : Int) (σ : mM) (Q : mA) : Prop := E1 knS d 289 (jmp 289 105) [(2, 279), (0, l1), (1, l2), (3, 0), (0, l4), (0, l5), (3, 0), (3, 0)] [] σ Q zno
def m_readOrder_56 (d : Nat) (l1 l2 l4 l5 l6 : Int) (σ : mM) (Q : mA) : Prop := E1 knS d 289 (jmp 289 56) [(2, 279), (0, l1), (1, l2), (3, 0), (0, l4), (0, l5), (0, l6), (3, 0)] [] σ Q zno
def m_readOrder_176 (d : Nat) (l1 l2 l4 : Int) (σ : mM) (Q : mA) : Prop := E1 knS d 289 (jmp 289 176) [(2, 279), (0, l1), (1, l2), (3, 0), (0, l4), (3, 0), (3, 0), (3, 0)] [] σ Q zno
def m_readOrder_218 (d : Nat) (l2 l4 : Int) (σ : mM) (Q : mA) : Prop := E1 knS d 289 (jmp 289 218) [(2, 279), (3, 0), (1, l2), (3, 0), (0, l4), (3, 0), (3, 0), (3, 0)] [] σ Q zno
/-- MarkHouseModel.readKind()V at (279,) -/
def m_readKind (d : Nat) (σ : mM) (Q : mA) : Prop := E1 knS d 307 (jmp 307 0) (entL 307 [(2, 279)]) [] σ Q zno
def m_readKind_185 (d : Nat) (l1 l3 : Int) (σ : mM) (Q : mA) : Prop := E1 knS d 307 (jmp 307 185) [(2, 279), (1, l1), (3, 0), (0, l3), (3, 0)] [] σ Q zno
def m_readKind_101 (d : Nat) (l1 l3 : Int) (σ : mM) (Q : mA) : Prop := E1 knS d 307 (jmp 307 101) [(2, 279), (1, l1), (3, 0), (0, l3), (3, 0)] [] σ Q zno
def m_readKind_43 (d : Nat) (l1 l3 l4 : Int) (σ : mM) (Q : mA) : Prop := E1 knS d 307 (jmp 307 43) [(2, 279), (1, l1), (3, 0), (0, l3), (0, l4)] [] σ Q zno
def m_readKind_242 (d : Nat) (l1 l3 : Int) (σ : mM) (Q : mA) : Prop := E1 knS d 307 (jmp 307 242) [(2, 279), (1, l1), (3, 0), (0, l3), (3, 0)] [] σ Q zno
def m_readKind_71 (d : Nat) (l1 l3 : Int) (σ : mM) (Q : mA) : Prop := E1 knS d 307 (jmp 307 71) [(2, 279), (1, l1), (3, 0), (0, l3), (3, 0)] [] σ Q zno
/-- MarkHouseModel.isWord(I)Z at (279,) -/
def m_isWord (d : Nat) (a1 : Int) (σ : mM) (Q : mA) : Prop := E1 knS d 288 (jmp 288 0) (entL 288 [(2, 279), (0, a1)]) [] σ Q zno
/-- MarkHouseModel.cant()V at (279,) -/
def m_cant (d : Nat) (σ : mM) (Q : mA) : Prop := E1 knS d 292 (jmp 292 0) (entL 292 [(2, 279)]) [] σ Q zno
/-- MarkHouseModel.readMaker()V at (279,) -/
def m_readMaker (d : Nat) (σ : mM) (Q : mA) : Prop := E1 knS d 319 (jmp 319 0) (entL 319 [(2, 279)]) [] σ Q zno
def m_readMaker_83 (d : Nat) (l1 l4 : Int) (σ : mM) (Q : mA) : Prop := E1 knS d 319 (jmp 319 83) [(2, 279), (1, l1), (3, 0), (3, 0), (1, l4), (3, 0)] [] σ Q zno
/-- MarkHouseModel.readClass()V at (279,) -/
def m_readClass (d : Nat) (σ : mM) (Q : mA) : Prop := E1 knS d 320 (jmp 320 0) (entL 320 [(2, 279)]) [] σ Q zno
def m_readClass_73 (d : Nat) (l1 l3 : Int) (σ : mM) (Q : mA) : Prop := E1 knS d 320 (jmp 320 73) [(2, 279), (1, l1), (3, 0), (0, l3), (3, 0), (3, 0), (3, 0)] [] σ Q zno
def m_readClass_158 (d : Nat) (l4 l5 : Int) (σ : mM) (Q : mA) : Prop := E1 knS d 320 (jmp 320 158) [(2, 279), (3, 0), (3, 0), (3, 0), (0, l4), (0, l5), (3, 0)] [] σ Q zno
/-- MarkHouseModel.findName(II)V at (279,) -/
def m_findName (d : Nat) (a1 a2 : Int) (σ : mM) (Q : mA) : Prop := E1 knS d 332 (jmp 332 0) (entL 332 [(2, 279), (0, a1), (0, a2)]) [] σ Q zno
def m_findName_33 (d : Nat) (l1 l2 : Int) (σ : mM) (Q : mA) : Prop := E1 knS d 332 (jmp 332 33) [(2, 279), (0, l1), (0, l2), (3, 0), (3, 0), (3, 0)] [] σ Q zno
def m_findName_162 (d : Nat) (l1 l2 : Int) (σ : mM) (Q : mA) : Prop := E1 knS d 332 (jmp 332 162) [(2, 279), (0, l1), (0, l2), (3, 0), (3, 0), (3, 0)] [] σ Q zno
def m_findName_111 (d : Nat) (l1 l2 l3 l4 k0 : Int) (σ : mM) (Q : mA) : Prop := E1 knS d 332 (jmp 332 111) [(2, 279), (0, l1), (0, l2), (0, l3), (0, l4), (3, 0)] [(0, k0)] σ Q zno
def m_findName_198 (d : Nat) (l1 l2 l3 : Int) (σ : mM) (Q : mA) : Prop := E1 knS d 332 (jmp 332 198) [(2, 279), (0, l1), (0, l2), (0, l3), (3, 0), (3, 0)] [] σ Q zno
/-- MarkHouseModel.takes(I)I at (279,) -/
def m_takes (d : Nat) (a1 : Int) (σ : mM) (Q : mA) : Prop := E1 knS d 336 (jmp 336 0) (entL 336 [(2, 279), (0, a1)]) [] σ Q zno
/-- MarkHouseModel.gives(I)I at (279,) -/
def m_gives0 (d : Nat) (a1 : Int) (σ : mM) (Q : mA) : Prop := E1 knS d 337 (jmp 337 0) (entL 337 [(2, 279), (0, a1)]) [] σ Q zno
/-- MarkHouseModel.leads(II)V at (279,) -/
def m_leads (d : Nat) (a1 a2 : Int) (σ : mM) (Q : mA) : Prop := E1 knS d 338 (jmp 338 0) (entL 338 [(2, 279), (0, a1), (0, a2)]) [] σ Q zno
/-- MarkHouseModel.above(I)I at (279,) -/
def m_above (d : Nat) (a1 : Int) (σ : mM) (Q : mA) : Prop := E1 knS d 349 (jmp 349 0) (entL 349 [(2, 279), (0, a1)]) [] σ Q zno
/-- MarkHouseModel.findGiven(J)V at (279,) -/
def m_findGiven (d : Nat) (a1 : Int) (σ : mM) (Q : mA) : Prop := E1 knS d 348 (jmp 348 0) (entL 348 [(2, 279), (1, a1)]) [] σ Q zno
def m_findGiven_7 (d : Nat) (l1 l3 : Int) (σ : mM) (Q : mA) : Prop := E1 knS d 348 (jmp 348 7) [(2, 279), (1, l1), (3, 0), (0, l3), (3, 0), (3, 0), (3, 0)] [] σ Q zno
def m_findGiven_32 (d : Nat) (l1 l3 l4 l5 : Int) (σ : mM) (Q : mA) : Prop := E1 knS d 348 (jmp 348 32) [(2, 279), (1, l1), (3, 0), (0, l3), (0, l4), (0, l5), (3, 0)] [] σ Q zno
def m_findGiven_94 (d : Nat) (l1 l3 l4 l5 : Int) (σ : mM) (Q : mA) : Prop := E1 knS d 348 (jmp 348 94) [(2, 279), (1, l1), (3, 0), (0, l3), (0, l4), (0, l5), (3, 0)] [] σ Q zno
/-- MarkHouseModel.elementThatCounts(II)I at (279,) -/
def m_elementThatCounts (d : Nat) (a1 a2 : Int) (σ : mM) (Q : mA) : Prop := E1 knS d 354 (jmp 354 0) (entL 354 [(2, 279), (0, a1), (0, a2)]) [] σ Q zno
/-- MarkHouseModel.elementOf(IJ)I at (279,) -/
def m_elementOf (d : Nat) (a1 a2 : Int) (σ : mM) (Q : mA) : Prop := E1 knS d 302 (jmp 302 0) (entL 302 [(2, 279), (0, a1), (1, a2)]) [] σ Q zno
def m_elementOf_3 (d : Nat) (l1 l2 l4 : Int) (σ : mM) (Q : mA) : Prop := E1 knS d 302 (jmp 302 3) [(2, 279), (0, l1), (1, l2), (3, 0), (0, l4)] [] σ Q zno
/-- MarkHouseModel.sortOf(I)I at () -/
def m_sortOf (d : Nat) (a1 : Int) (σ : mM) (Q : mA) : Prop := E1 knS d 346 (jmp 346 0) (entL 346 [(0, a1)]) [] σ Q zno
/-- MarkHouseModel.cell(III)I at (279,) -/
def m_cell (d : Nat) (a1 a2 a3 : Int) (σ : mM) (Q : mA) : Prop := E1 knS d 300 (jmp 300 0) (entL 300 [(2, 279), (0, a1), (0, a2), (0, a3)]) [] σ Q zno
/-- MarkHouseModel.newPair(IJIJ)V at (279,) -/
def m_newPair (d : Nat) (a1 a2 a3 a4 : Int) (σ : mM) (Q : mA) : Prop := E1 knS d 317 (jmp 317 0) (entL 317 [(2, 279), (0, a1), (1, a2), (0, a3), (1, a4)]) [] σ Q zno
/-- MarkHouseModel.fileText()J at (279,) -/
def m_fileText (d : Nat) (σ : mM) (Q : mA) : Prop := E1 knS d 373 (jmp 373 0) (entL 373 [(2, 279)]) [] σ Q zno
def m_fileText_13 (d : Nat) (l1 l2 l4 : Int) (σ : mM) (Q : mA) : Prop := E1 knS d 373 (jmp 373 13) [(2, 279), (0, l1), (1, l2), (3, 0), (0, l4), (3, 0)] [] σ Q zno
/-- MarkHouseModel.sizeOf(J)I at () -/
def m_sizeOf (d : Nat) (a1 : Int) (σ : mM) (Q : mA) : Prop := E1 knS d 377 (jmp 377 0) (entL 377 [(1, a1)]) [] σ Q zno
def m_sizeOf_4 (d : Nat) (l2 l3 : Int) (σ : mM) (Q : mA) : Prop := E1 knS d 377 (jmp 377 4) [(3, 0), (3, 0), (0, l2), (1, l3), (3, 0)] [] σ Q zno
/-- MarkHouseModel.isNext(III)Z at (279,) -/
def m_isNext (d : Nat) (a1 a2 a3 : Int) (σ : mM) (Q : mA) : Prop := E1 knS d 383 (jmp 383 0) (entL 383 [(2, 279), (0, a1), (0, a2), (0, a3)]) [] σ Q zno
def m_isNext_25 (d : Nat) (l1 l2 l3 l4 l5 : Int) (σ : mM) (Q : mA) : Prop := E1 knS d 383 (jmp 383 25) [(2, 279), (0, l1), (0, l2), (0, l3), (0, l4), (0, l5)] [] σ Q zno
/-- MarkHouseModel.sayInt(I)V at (279,) -/
def m_sayInt (d : Nat) (a1 : Int) (σ : mM) (Q : mA) : Prop := E1 knS d 386 (jmp 386 0) (entL 386 [(2, 279), (0, a1)]) [] σ Q zno
/-- MarkHouseModel.sayText(J)V at (279,) -/
def m_sayText (d : Nat) (a1 : Int) (σ : mM) (Q : mA) : Prop := E1 knS d 385 (jmp 385 0) (entL 385 [(2, 279), (1, a1)]) [] σ Q zno
/-- MarkHouseModel.gap()V at (279,) -/
def m_gap (d : Nat) (σ : mM) (Q : mA) : Prop := E1 knS d 381 (jmp 381 0) (entL 381 [(2, 279)]) [] σ Q zno
/-- java/lang/String.length()I at ('S',) -/
def jS_length (d : Nat) (a0 : Int) (σ : mM) (Q : mA) : Prop := E1 knS d 448 (jmp 448 0) (entL 448 [(2, a0)]) [] σ Q zno
/-- java/lang/String.charAt(I)C at ('S',) -/
def jS_charAt (d : Nat) (a0 a1 : Int) (σ : mM) (Q : mA) : Prop := E1 knS d 450 (jmp 450 0) (entL 450 [(2, a0), (0, a1)]) [] σ Q zno
/-- MarkHouseModel.sayMark(I)V at (279,) -/
def m_sayMark (d : Nat) (a1 : Int) (σ : mM) (Q : mA) : Prop := E1 knS d 390 (jmp 390 0) (entL 390 [(2, 279), (0, a1)]) [] σ Q zno
def m_sayMark_33 (d : Nat) (l1 l2 : Int) (σ : mM) (Q : mA) : Prop := E1 knS d 390 (jmp 390 33) [(2, 279), (0, l1), (0, l2), (3, 0), (3, 0), (3, 0), (3, 0)] [] σ Q zno
def m_sayMark_102 (d : Nat) (l1 l3 l4 l5 : Int) (σ : mM) (Q : mA) : Prop := E1 knS d 390 (jmp 390 102) [(2, 279), (0, l1), (3, 0), (0, l3), (0, l4), (0, l5), (3, 0)] [] σ Q zno
def m_sayMark_150 (d : Nat) (l1 l3 l5 k0 : Int) (σ : mM) (Q : mA) : Prop := E1 knS d 390 (jmp 390 150) [(2, 279), (0, l1), (3, 0), (0, l3), (3, 0), (0, l5), (3, 0)] [(2, k0), (2, 279)] σ Q zno
/-- MarkHouseModel.isSound(I)Z at (279,) -/
def m_isSound (d : Nat) (a1 : Int) (σ : mM) (Q : mA) : Prop := E1 knS d 389 (jmp 389 0) (entL 389 [(2, 279), (0, a1)]) [] σ Q zno
def m_isSound_58 (d : Nat) (l1 l3 l4 l5 : Int) (σ : mM) (Q : mA) : Prop := E1 knS d 389 (jmp 389 58) [(2, 279), (0, l1), (3, 0), (0, l3), (0, l4), (0, l5)] [] σ Q zno
/-- MarkHouseModel.does(II)V at (279,) -/
def m_does (d : Nat) (a1 a2 : Int) (σ : mM) (Q : mA) : Prop := E1 knS d 407 (jmp 407 0) (entL 407 [(2, 279), (0, a1), (0, a2)]) [] σ Q zno
def m_does_221 (d : Nat) (l2 l3 : Int) (σ : mM) (Q : mA) : Prop := E1 knS d 407 (jmp 407 221) [(2, 279), (3, 0), (0, l2), (0, l3), (3, 0)] [] σ Q zno
/-- MarkHouseModel.comes(II)V at (279,) -/
def m_comes (d : Nat) (a1 a2 : Int) (σ : mM) (Q : mA) : Prop := E1 knS d 406 (jmp 406 0) (entL 406 [(2, 279), (0, a1), (0, a2)]) [] σ Q zno
def m_comes_23 (d : Nat) (l1 l3 : Int) (σ : mM) (Q : mA) : Prop := E1 knS d 406 (jmp 406 23) [(2, 279), (0, l1), (3, 0), (0, l3), (3, 0)] [] σ Q zno
def m_comes_55 (d : Nat) (l1 l2 l3 : Int) (σ : mM) (Q : mA) : Prop := E1 knS d 406 (jmp 406 55) [(2, 279), (0, l1), (0, l2), (0, l3), (3, 0)] [] σ Q zno
/-- MarkHouseModel.fieldPlace(II)I at () -/
def m_fieldPlace (d : Nat) (a1 a2 : Int) (σ : mM) (Q : mA) : Prop := E1 knS d 409 (jmp 409 0) (entL 409 [(0, a1), (0, a2)]) [] σ Q zno
/-- MarkHouseModel.numberOf(IIZ)I at (279,) -/
def m_numberOf (d : Nat) (a1 a2 a3 : Int) (σ : mM) (Q : mA) : Prop := E1 knS d 395 (jmp 395 0) (entL 395 [(2, 279), (0, a1), (0, a2), (0, a3)]) [] σ Q zno
def m_numberOf_6 (d : Nat) (l1 l2 l3 l4 l5 : Int) (σ : mM) (Q : mA) : Prop := E1 knS d 395 (jmp 395 6) [(2, 279), (0, l1), (0, l2), (0, l3), (0, l4), (0, l5)] [] σ Q zno
/-- MarkHouseModel.plain(II)V at (279,) -/
def m_plain1 (d : Nat) (a1 a2 : Int) (σ : mM) (Q : mA) : Prop := E1 knS d 428 (jmp 428 0) (entL 428 [(2, 279), (0, a1), (0, a2)]) [] σ Q zno
def m_plain1_9 (d : Nat) (l1 l3 : Int) (σ : mM) (Q : mA) : Prop := E1 knS d 428 (jmp 428 9) [(2, 279), (0, l1), (3, 0), (0, l3)] [] σ Q zno
/-- MarkHouseModel.copy(II)V at (279,) -/
def m_copy (d : Nat) (a1 a2 : Int) (σ : mM) (Q : mA) : Prop := E1 knS d 434 (jmp 434 0) (entL 434 [(2, 279), (0, a1), (0, a2)]) [] σ Q zno
def m_copy_14 (d : Nat) (l1 l2 l3 : Int) (σ : mM) (Q : mA) : Prop := E1 knS d 434 (jmp 434 14) [(2, 279), (0, l1), (0, l2), (0, l3)] [] σ Q zno
/-- MarkHouseModel.calls(II)V at (279,) -/
def m_calls (d : Nat) (a1 a2 : Int) (σ : mM) (Q : mA) : Prop := E1 knS d 435 (jmp 435 0) (entL 435 [(2, 279), (0, a1), (0, a2)]) [] σ Q zno
def m_calls_44 (d : Nat) (l1 l4 l5 : Int) (σ : mM) (Q : mA) : Prop := E1 knS d 435 (jmp 435 44) [(2, 279), (0, l1), (3, 0), (3, 0), (0, l4), (0, l5)] [] σ Q zno
/-- MarkHouseModel.gives(II)V at (279,) -/
def m_gives1 (d : Nat) (a1 a2 : Int) (σ : mM) (Q : mA) : Prop := E1 knS d 436 (jmp 436 0) (entL 436 [(2, 279), (0, a1), (0, a2)]) [] σ Q zno
def m_gives1_21 (d : Nat) (l2 l3 : Int) (σ : mM) (Q : mA) : Prop := E1 knS d 436 (jmp 436 21) [(2, 279), (3, 0), (0, l2), (0, l3)] [] σ Q zno
/-- MarkHouseModel.nextInput()I at (279,) -/
def m_nextInput (d : Nat) (σ : mM) (Q : mA) : Prop := E1 knS d 433 (jmp 433 0) (entL 433 [(2, 279)]) [] σ Q zno
def m_nextInput_28 (d : Nat) (l1 l2 : Int) (σ : mM) (Q : mA) : Prop := E1 knS d 433 (jmp 433 28) [(2, 279), (0, l1), (0, l2)] [] σ Q zno
/-- MarkHouseModel.wantsOf(II)V at (279,) -/
def m_wantsOf (d : Nat) (a1 a2 : Int) (σ : mM) (Q : mA) : Prop := E1 knS d 442 (jmp 442 0) (entL 442 [(2, 279), (0, a1), (0, a2)]) [] σ Q zno
def m_wantsOf_31 (d : Nat) (l1 l2 l3 l4 : Int) (σ : mM) (Q : mA) : Prop := E1 knS d 442 (jmp 442 31) [(2, 279), (0, l1), (0, l2), (0, l3), (0, l4), (3, 0)] [] σ Q zno
/-- MarkHouseModel.memberOf(IJ)I at (279,) -/
def m_memberOf (d : Nat) (a1 a2 : Int) (σ : mM) (Q : mA) : Prop := E1 knS d 309 (jmp 309 0) (entL 309 [(2, 279), (0, a1), (1, a2)]) [] σ Q zno
def m_memberOf_3 (d : Nat) (l1 l2 l4 : Int) (σ : mM) (Q : mA) : Prop := E1 knS d 309 (jmp 309 3) [(2, 279), (0, l1), (1, l2), (3, 0), (0, l4)] [] σ Q zno
/-- MarkHouse$Orders.isNext(III)Z at (171,) -/
def xO_isNext (d : Nat) (a1 a2 a3 : Int) (σ : mM) (Q : mA) : Prop := E1 knS d 101 (jmp 101 0) (entL 101 [(2, 171), (0, a1), (0, a2), (0, a3)]) [] σ Q zno
def xO_isNext_20 (d : Nat) (l1 l2 l3 l4 : Int) (σ : mM) (Q : mA) : Prop := E1 knS d 101 (jmp 101 20) [(2, 171), (0, l1), (0, l2), (0, l3), (0, l4)] [] σ Q zno
/-- MarkHouse$Teller.value(IJ)V at (278,) -/
def xT_value (d : Nat) (a1 a2 : Int) (σ : mM) (Q : mA) : Prop := E1 knS d 259 (jmp 259 0) (entL 259 [(2, 278), (0, a1), (1, a2)]) [] σ Q zno
/-- MarkHouse$Teller.isTold(II)Z at (278,) -/
def xT_isTold (d : Nat) (a1 a2 : Int) (σ : mM) (Q : mA) : Prop := E1 knS d 262 (jmp 262 0) (entL 262 [(2, 278), (0, a1), (0, a2)]) [] σ Q zno
def xT_isTold_21 (d : Nat) (l2 : Int) (σ : mM) (Q : mA) : Prop := E1 knS d 262 (jmp 262 21) [(2, 278), (3, 0), (0, l2), (3, 0), (3, 0)] [] σ Q zno
def xT_isTold_89 (d : Nat) (l2 l3 l4 : Int) (σ : mM) (Q : mA) : Prop := E1 knS d 262 (jmp 262 89) [(2, 278), (3, 0), (0, l2), (0, l3), (0, l4)] [] σ Q zno
/-- MarkHouse$Teller.pairs(II)V at (278,) -/
def xT_pairs (d : Nat) (a1 a2 : Int) (σ : mM) (Q : mA) : Prop := E1 knS d 263 (jmp 263 0) (entL 263 [(2, 278), (0, a1), (0, a2)]) [] σ Q zno
def xT_pairs_5 (d : Nat) (l1 l2 l3 l4 : Int) (σ : mM) (Q : mA) : Prop := E1 knS d 263 (jmp 263 5) [(2, 278), (0, l1), (0, l2), (0, l3), (0, l4), (3, 0), (3, 0)] [] σ Q zno
def xT_pairs_71 (d : Nat) (l1 l2 l4 l5 l6 k0 : Int) (σ : mM) (Q : mA) : Prop := E1 knS d 263 (jmp 263 71) [(2, 278), (0, l1), (0, l2), (3, 0), (0, l4), (0, l5), (0, l6)] [(0, k0), (2, 278)] σ Q zno
/-- MarkHouse$Program.ofField(I)I at () -/
def xP_ofField (d : Nat) (a1 : Int) (σ : mM) (Q : mA) : Prop := E1 knS d 78 (jmp 78 0) (entL 78 [(0, a1)]) [] σ Q zno
/-- MarkHouse$Teller.method(I)V at (278,) -/
def xT_method (d : Nat) (a1 : Int) (σ : mM) (Q : mA) : Prop := E1 knS d 265 (jmp 265 0) (entL 265 [(2, 278), (0, a1)]) [] σ Q zno
def xT_method_26 (d : Nat) (l1 l2 : Int) (σ : mM) (Q : mA) : Prop := E1 knS d 265 (jmp 265 26) [(2, 278), (0, l1), (0, l2)] [] σ Q zno
def xT_method_110 (d : Nat) (l1 l2 : Int) (σ : mM) (Q : mA) : Prop := E1 knS d 265 (jmp 265 110) [(2, 278), (0, l1), (0, l2)] [] σ Q zno
def xT_method_49 (d : Nat) (l1 l2 : Int) (σ : mM) (Q : mA) : Prop := E1 knS d 265 (jmp 265 49) [(2, 278), (0, l1), (0, l2)] [] σ Q zno
/-- MarkHouse$Attributes.one(II)I at (234,) -/
def xA_one (d : Nat) (a1 a2 : Int) (σ : mM) (Q : mA) : Prop := E1 knS d 182 (jmp 182 0) (entL 182 [(2, 234), (0, a1), (0, a2)]) [] σ Q zno
/-- MarkHouse$Attributes.good()Z at (234,) -/
def xA_good (d : Nat) (σ : mM) (Q : mA) : Prop := E1 knS d 183 (jmp 183 0) (entL 183 [(2, 234)]) [] σ Q zno
/-- MarkHouse$Attributes.name()J at (234,) -/
def xA_name (d : Nat) (σ : mM) (Q : mA) : Prop := E1 knS d 184 (jmp 184 0) (entL 184 [(2, 234)]) [] σ Q zno
def xA_name_13 (d : Nat) (l1 l2 l4 : Int) (σ : mM) (Q : mA) : Prop := E1 knS d 184 (jmp 184 13) [(2, 234), (0, l1), (1, l2), (3, 0), (0, l4), (3, 0)] [] σ Q zno
def xA_name_64 (d : Nat) (l1 l2 l4 l5 : Int) (σ : mM) (Q : mA) : Prop := E1 knS d 184 (jmp 184 64) [(2, 234), (0, l1), (1, l2), (3, 0), (0, l4), (0, l5)] [] σ Q zno
/-- MarkHouse$Bytes.size()I at ('S',) -/
def xB_size'' (d : Nat) (a0 : Int) (σ : mM) (Q : mA) : Prop := E1 knS d 47 (jmp 47 0) (entL 47 [(2, a0)]) [] σ Q zno
/-- MarkHouse$Bytes.at(I)I at ('S',) -/
def xB_at'' (d : Nat) (a0 a1 : Int) (σ : mM) (Q : mA) : Prop := E1 knS d 49 (jmp 49 0) (entL 49 [(2, a0), (0, a1)]) [] σ Q zno
/-- MarkHouse$Marks.add(IJI)I at (180,) -/
def xM_add (d : Nat) (a1 a2 a3 : Int) (σ : mM) (Q : mA) : Prop := E1 knS d 115 (jmp 115 0) (entL 115 [(2, 180), (0, a1), (1, a2), (0, a3)]) [] σ Q zno
/-- MarkHouse$Attributes.pair(I)V at (234,) -/
def xA_pair (d : Nat) (a1 : Int) (σ : mM) (Q : mA) : Prop := E1 knS d 185 (jmp 185 0) (entL 185 [(2, 234), (0, a1)]) [] σ Q zno
def xA_pair_19 (d : Nat) (l1 l2 l4 l5 l7 : Int) (σ : mM) (Q : mA) : Prop := E1 knS d 185 (jmp 185 19) [(2, 234), (0, l1), (1, l2), (3, 0), (0, l4), (1, l5), (3, 0), (0, l7)] [] σ Q zno
def xA_pair_54 (d : Nat) (l1 l2 l4 l5 : Int) (σ : mM) (Q : mA) : Prop := E1 knS d 185 (jmp 185 54) [(2, 234), (0, l1), (1, l2), (3, 0), (0, l4), (1, l5), (3, 0), (3, 0)] [] σ Q zno
def xA_pair_78 (d : Nat) (l1 l2 l4 l5 : Int) (σ : mM) (Q : mA) : Prop := E1 knS d 185 (jmp 185 78) [(2, 234), (0, l1), (1, l2), (3, 0), (0, l4), (1, l5), (3, 0), (3, 0)] [] σ Q zno
/-- MarkHouse$Attributes.length(J)I at () -/
def xA_length (d : Nat) (a1 : Int) (σ : mM) (Q : mA) : Prop := E1 knS d 189 (jmp 189 0) (entL 189 [(1, a1)]) [] σ Q zno
def xA_length_2 (d : Nat) (l0 l2 : Int) (σ : mM) (Q : mA) : Prop := E1 knS d 189 (jmp 189 2) [(1, l0), (3, 0), (0, l2)] [] σ Q zno
/-- MarkHouse$Passing.givenBy(IIJ)I at (226,) -/
def xS_givenBy (d : Nat) (a1 a2 a3 : Int) (σ : mM) (Q : mA) : Prop := E1 knS d 168 (jmp 168 0) (entL 168 [(2, 226), (0, a1), (0, a2), (1, a3)]) [] σ Q zno
/-- MarkHouse$Passing.isAlike(III)Z at (226,) -/
def xS_isAlike (d : Nat) (a1 a2 a3 : Int) (σ : mM) (Q : mA) : Prop := E1 knS d 171 (jmp 171 0) (entL 171 [(2, 226), (0, a1), (0, a2), (0, a3)]) [] σ Q zno
def xS_isAlike_36 (d : Nat) (l1 l2 l3 l4 : Int) (σ : mM) (Q : mA) : Prop := E1 knS d 171 (jmp 171 36) [(2, 226), (0, l1), (0, l2), (0, l3), (0, l4)] [] σ Q zno
/-- MarkHouse$Program.methodFrom(IJ)I at (170,) -/
def xP_methodFrom (d : Nat) (a1 a2 : Int) (σ : mM) (Q : mA) : Prop := E1 knS d 85 (jmp 85 0) (entL 85 [(2, 170), (0, a1), (1, a2)]) [] σ Q zno
def xP_methodFrom_3 (d : Nat) (l2 l4 : Int) (σ : mM) (Q : mA) : Prop := E1 knS d 85 (jmp 85 3) [(2, 170), (3, 0), (1, l2), (3, 0), (0, l4)] [] σ Q zno
/-- MarkHouse$Program.parameterOf(I)I at () -/
def xP_parameterOf (d : Nat) (a1 : Int) (σ : mM) (Q : mA) : Prop := E1 knS d 87 (jmp 87 0) (entL 87 [(0, a1)]) [] σ Q zno
/-- MarkHouse$Passing.adds(II)Z at (226,) -/
def xS_adds (d : Nat) (a1 a2 : Int) (σ : mM) (Q : mA) : Prop := E1 knS d 177 (jmp 177 0) (entL 177 [(2, 226), (0, a1), (0, a2)]) [] σ Q zno
def xS_adds_5 (d : Nat) (l1 l2 l3 l4 : Int) (σ : mM) (Q : mA) : Prop := E1 knS d 177 (jmp 177 5) [(2, 226), (0, l1), (0, l2), (0, l3), (0, l4), (3, 0)] [] σ Q zno
/-- MarkHouse$Flow.flow(I)V at (235,) -/
def xF_flow (d : Nat) (a1 : Int) (σ : mM) (Q : mA) : Prop := E1 knS d 195 (jmp 195 0) (entL 195 [(2, 235), (0, a1)]) [] σ Q zno
def xF_flow_7 (d : Nat) (l1 l2 l3 : Int) (σ : mM) (Q : mA) : Prop := E1 knS d 195 (jmp 195 7) [(2, 235), (0, l1), (0, l2), (0, l3), (3, 0), (3, 0)] [] σ Q zno
def xF_flow_61 (d : Nat) (l1 l2 l3 : Int) (σ : mM) (Q : mA) : Prop := E1 knS d 195 (jmp 195 61) [(2, 235), (0, l1), (0, l2), (0, l3), (3, 0), (3, 0)] [] σ Q zno
def xF_flow_146 (d : Nat) (l1 l2 l4 l5 : Int) (σ : mM) (Q : mA) : Prop := E1 knS d 195 (jmp 195 146) [(2, 235), (0, l1), (0, l2), (3, 0), (0, l4), (0, l5)] [] σ Q zno
/-- MarkHouse$Flow.asked(II)I at (235,) -/
def xF_asked (d : Nat) (a1 a2 : Int) (σ : mM) (Q : mA) : Prop := E1 knS d 201 (jmp 201 0) (entL 201 [(2, 235), (0, a1), (0, a2)]) [] σ Q zno
/-- MarkHouse$Flow.valueAt(II)B at (235,) -/
def xF_valueAt (d : Nat) (a1 a2 : Int) (σ : mM) (Q : mA) : Prop := E1 knS d 202 (jmp 202 0) (entL 202 [(2, 235), (0, a1), (0, a2)]) [] σ Q zno
/-- MarkHouse$Flow.below(II)I at (235,) -/
def xF_below' (d : Nat) (a1 a2 : Int) (σ : mM) (Q : mA) : Prop := E1 knS d 203 (jmp 203 0) (entL 203 [(2, 235), (0, a1), (0, a2)]) [] σ Q zno
/-- MarkHouse$Ways.isSame(I)Z at (255,) -/
def xW_isSame (d : Nat) (a1 : Int) (σ : mM) (Q : mA) : Prop := E1 knS d 209 (jmp 209 0) (entL 209 [(2, 255), (0, a1)]) [] σ Q zno
def xW_isSame_2 (d : Nat) (l1 l2 : Int) (σ : mM) (Q : mA) : Prop := E1 knS d 209 (jmp 209 2) [(2, 255), (0, l1), (0, l2)] [] σ Q zno
/-- MarkHouse$Program.leads(I)Z at (170,) -/
def xP_leads (d : Nat) (a1 : Int) (σ : mM) (Q : mA) : Prop := E1 knS d 80 (jmp 80 0) (entL 80 [(2, 170), (0, a1)]) [] σ Q zno
/-- MarkHouse$Ways.leads(IIII)V at (255,) -/
def xW_leads (d : Nat) (a1 a2 a3 a4 : Int) (σ : mM) (Q : mA) : Prop := E1 knS d 211 (jmp 211 0) (entL 211 [(2, 255), (0, a1), (0, a2), (0, a3), (0, a4)]) [] σ Q zno
/-- MarkHouse$Program.falls(I)Z at (170,) -/
def xP_falls (d : Nat) (a1 : Int) (σ : mM) (Q : mA) : Prop := E1 knS d 90 (jmp 90 0) (entL 90 [(2, 170), (0, a1)]) [] σ Q zno
/-- MarkHouse$Flow.pass(I[BI[BZ)V at (235, 256, 259) -/
def xF_pass (d : Nat) (a1 a3 a5 : Int) (σ : mM) (Q : mA) : Prop := E1 knS d 197 (jmp 197 0) (entL 197 [(2, 235), (0, a1), (2, 256), (0, a3), (2, 259), (0, a5)]) [] σ Q zno
def xF_pass_453 (d : Nat) (l9 : Int) (σ : mM) (Q : mA) : Prop := E1 knS d 197 (jmp 197 453) [(3, 0), (3, 0), (3, 0), (3, 0), (2, 259), (3, 0), (3, 0), (3, 0), (3, 0), (0, l9)] [] σ Q zno
def xF_pass_148 (d : Nat) (l1 l7 l8 : Int) (σ : mM) (Q : mA) : Prop := E1 knS d 197 (jmp 197 148) [(2, 235), (0, l1), (3, 0), (3, 0), (2, 259), (3, 0), (3, 0), (0, l7), (0, l8), (3, 0)] [] σ Q zno
def xF_pass_305 (d : Nat) (l7 l8 : Int) (σ : mM) (Q : mA) : Prop := E1 knS d 197 (jmp 197 305) [(2, 235), (3, 0), (3, 0), (3, 0), (2, 259), (3, 0), (3, 0), (0, l7), (0, l8), (3, 0)] [] σ Q zno
/-- MarkHouse$Flow.flow(I)V at (245,) -/
def xF_flow' (d : Nat) (a1 : Int) (σ : mM) (Q : mA) : Prop := E1 knS d 195 (jmp 195 0) (entL 195 [(2, 245), (0, a1)]) [] σ Q zno
def xF_flow'_7 (d : Nat) (l1 l2 l3 : Int) (σ : mM) (Q : mA) : Prop := E1 knS d 195 (jmp 195 7) [(2, 245), (0, l1), (0, l2), (0, l3), (3, 0), (3, 0)] [] σ Q zno
def xF_flow'_61 (d : Nat) (l1 l2 l3 : Int) (σ : mM) (Q : mA) : Prop := E1 knS d 195 (jmp 195 61) [(2, 245), (0, l1), (0, l2), (0, l3), (3, 0), (3, 0)] [] σ Q zno
def xF_flow'_146 (d : Nat) (l1 l2 l4 l5 : Int) (σ : mM) (Q : mA) : Prop := E1 knS d 195 (jmp 195 146) [(2, 245), (0, l1), (0, l2), (3, 0), (0, l4), (0, l5)] [] σ Q zno
/-- MarkHouse$Flow.asked(II)I at (245,) -/
def xF_asked' (d : Nat) (a1 a2 : Int) (σ : mM) (Q : mA) : Prop := E1 knS d 201 (jmp 201 0) (entL 201 [(2, 245), (0, a1), (0, a2)]) [] σ Q zno
/-- MarkHouse$Flow.valueAt(II)B at (245,) -/
def xF_valueAt' (d : Nat) (a1 a2 : Int) (σ : mM) (Q : mA) : Prop := E1 knS d 202 (jmp 202 0) (entL 202 [(2, 245), (0, a1), (0, a2)]) [] σ Q zno
/-- MarkHouse$Flow.look(I)V at (245,) -/
def xF_look' (d : Nat) (a1 : Int) (σ : mM) (Q : mA) : Prop := E1 knS d 200 (jmp 200 0) (entL 200 [(2, 245), (0, a1)]) [] σ Q zno
def xF_look'_2 (d : Nat) (l1 l2 : Int) (σ : mM) (Q : mA) : Prop := E1 knS d 200 (jmp 200 2) [(2, 245), (0, l1), (0, l2), (3, 0), (3, 0)] [] σ Q zno
/-- MarkHouse$Teller.elements(I)V at (278,) -/
def xT_elements (d : Nat) (a1 : Int) (σ : mM) (Q : mA) : Prop := E1 knS d 267 (jmp 267 0) (entL 267 [(2, 278), (0, a1)]) [] σ Q zno
def xT_elements_2 (d : Nat) (l1 l2 : Int) (σ : mM) (Q : mA) : Prop := E1 knS d 267 (jmp 267 2) [(2, 278), (0, l1), (0, l2), (3, 0)] [] σ Q zno
/-- MarkHouse$Weaver.place(I)I at (261,) -/
def xV_place (d : Nat) (a1 : Int) (σ : mM) (Q : mA) : Prop := E1 knS d 213 (jmp 213 0) (entL 213 [(2, 261), (0, a1)]) [] σ Q zno
def xV_place_12 (d : Nat) (l1 l2 l3 : Int) (σ : mM) (Q : mA) : Prop := E1 knS d 213 (jmp 213 12) [(2, 261), (0, l1), (0, l2), (0, l3)] [] σ Q zno
/-- MarkHouse$Wirer.wants(II)V at (273,) -/
def xI_wants0 (d : Nat) (a1 a2 : Int) (σ : mM) (Q : mA) : Prop := E1 knS d 246 (jmp 246 0) (entL 246 [(2, 273), (0, a1), (0, a2)]) [] σ Q zno
def xI_wants0_29 (d : Nat) (l1 l2 l3 : Int) (σ : mM) (Q : mA) : Prop := E1 knS d 246 (jmp 246 29) [(2, 273), (0, l1), (0, l2), (0, l3)] [] σ Q zno
/-- MarkHouse$Program.member(IJ)I at (170,) -/
def xP_member (d : Nat) (a1 a2 : Int) (σ : mM) (Q : mA) : Prop := E1 knS d 93 (jmp 93 0) (entL 93 [(2, 170), (0, a1), (1, a2)]) [] σ Q zno
def xP_member_3 (d : Nat) (l1 l2 l4 : Int) (σ : mM) (Q : mA) : Prop := E1 knS d 93 (jmp 93 3) [(2, 170), (0, l1), (1, l2), (3, 0), (0, l4)] [] σ Q zno
/-- MarkHouse$Lexemes.isLetter(I)Z at () -/
def xL_isLetter (d : Nat) (a1 : Int) (σ : mM) (Q : mA) : Prop := E1 knS d 59 (jmp 59 0) (entL 59 [(0, a1)]) [] σ Q zno
/-- MarkHouse$Lexemes.isDigit(I)Z at () -/
def xL_isDigit (d : Nat) (a1 : Int) (σ : mM) (Q : mA) : Prop := E1 knS d 60 (jmp 60 0) (entL 60 [(0, a1)]) [] σ Q zno
/-- MarkHouse$Lexemes.text(I)I at (162,) -/
def xL_text (d : Nat) (a1 : Int) (σ : mM) (Q : mA) : Prop := E1 knS d 68 (jmp 68 0) (entL 68 [(2, 162), (0, a1)]) [] σ Q zno
def xL_text_6 (d : Nat) (l1 l2 l3 : Int) (σ : mM) (Q : mA) : Prop := E1 knS d 68 (jmp 68 6) [(2, 162), (0, l1), (0, l2), (1, l3), (3, 0)] [] σ Q zno
def xL_text_52 (d : Nat) (l1 l2 l3 : Int) (σ : mM) (Q : mA) : Prop := E1 knS d 68 (jmp 68 52) [(2, 162), (0, l1), (0, l2), (1, l3), (3, 0)] [] σ Q zno
/-- java/lang/String.indexOf(I)I at ('S',) -/
def jS_indexOf0 (d : Nat) (a0 a1 : Int) (σ : mM) (Q : mA) : Prop := E1 knS d 453 (jmp 453 0) (entL 453 [(2, a0), (0, a1)]) [] σ Q zno
/-- MarkHouse$Lexemes.add(II)V at (162,) -/
def xL_add (d : Nat) (a1 a2 : Int) (σ : mM) (Q : mA) : Prop := E1 knS d 66 (jmp 66 0) (entL 66 [(2, 162), (0, a1), (0, a2)]) [] σ Q zno
/-- MarkHouse$Lexemes.number(I)I at (162,) -/
def xL_number (d : Nat) (a1 : Int) (σ : mM) (Q : mA) : Prop := E1 knS d 67 (jmp 67 0) (entL 67 [(2, 162), (0, a1)]) [] σ Q zno
def xL_number_4 (d : Nat) (l1 l2 l3 : Int) (σ : mM) (Q : mA) : Prop := E1 knS d 67 (jmp 67 4) [(2, 162), (0, l1), (0, l2), (0, l3)] [] σ Q zno
/-- MarkHouse$Lexemes.name(I)I at (162,) -/
def xL_name0 (d : Nat) (a1 : Int) (σ : mM) (Q : mA) : Prop := E1 knS d 64 (jmp 64 0) (entL 64 [(2, 162), (0, a1)]) [] σ Q zno
def xL_name0_4 (d : Nat) (l1 l2 l3 : Int) (σ : mM) (Q : mA) : Prop := E1 knS d 64 (jmp 64 4) [(2, 162), (0, l1), (0, l2), (1, l3), (3, 0), (3, 0)] [] σ Q zno
def xL_name0_72 (d : Nat) (l1 l2 l3 l5 : Int) (σ : mM) (Q : mA) : Prop := E1 knS d 64 (jmp 64 72) [(2, 162), (0, l1), (0, l2), (1, l3), (3, 0), (0, l5)] [] σ Q zno
def xL_name0_26 (d : Nat) (l1 l2 l3 : Int) (σ : mM) (Q : mA) : Prop := E1 knS d 64 (jmp 64 26) [(2, 162), (0, l1), (0, l2), (1, l3), (3, 0), (3, 0)] [] σ Q zno
def xL_name0_97 (d : Nat) (l1 l2 l3 l5 : Int) (σ : mM) (Q : mA) : Prop := E1 knS d 64 (jmp 64 97) [(2, 162), (0, l1), (0, l2), (1, l3), (3, 0), (0, l5)] [] σ Q zno
/-- MarkHouse$Lexemes.takes(Z)Z at (162,) -/
def xL_takes (d : Nat) (a1 : Int) (σ : mM) (Q : mA) : Prop := E1 knS d 70 (jmp 70 0) (entL 70 [(2, 162), (0, a1)]) [] σ Q zno
/-- MarkHouse$Lexemes.start()I at (162,) -/
def xL_start (d : Nat) (σ : mM) (Q : mA) : Prop := E1 knS d 71 (jmp 71 0) (entL 71 [(2, 162)]) [] σ Q zno
/-- MarkHouse$Reader.fresh(II)J at (224,) -/
def xR_fresh (d : Nat) (a1 a2 : Int) (σ : mM) (Q : mA) (Z : mM → Prop) : Prop := E1 knS d 123 (jmp 123 0) (entL 123 [(2, 224), (0, a1), (0, a2)]) [] σ Q Z
def xR_fresh_22 (d : Nat) (l1 l2 l3 k0 : Int) (σ : mM) (Q : mA) (Z : mM → Prop) : Prop := E1 knS d 123 (jmp 123 22) [(2, 224), (0, l1), (0, l2), (1, l3), (3, 0)] [(0, k0), (2, 224)] σ Q Z
/-- MarkHouse$Orders.begin()V at (171,) -/
def xO_begin (d : Nat) (σ : mM) (Q : mA) : Prop := E1 knS d 108 (jmp 108 0) (entL 108 [(2, 171)]) [] σ Q zno
def xO_begin_12 (d : Nat) (l1 : Int) (σ : mM) (Q : mA) : Prop := E1 knS d 108 (jmp 108 12) [(2, 171), (0, l1)] [] σ Q zno
/-- MarkHouse$Reader.sign(I)V at (224,) -/
def xR_sign (d : Nat) (a1 : Int) (σ : mM) (Q : mA) (Z : mM → Prop) : Prop := E1 knS d 127 (jmp 127 0) (entL 127 [(2, 224), (0, a1)]) [] σ Q Z
/-- MarkHouse$Orders.close()Z at (171,) -/
def xO_close (d : Nat) (σ : mM) (Q : mA) : Prop := E1 knS d 109 (jmp 109 0) (entL 109 [(2, 171)]) [] σ Q zno
def xO_close_14 (d : Nat) (l1 l2 l3 : Int) (σ : mM) (Q : mA) : Prop := E1 knS d 109 (jmp 109 14) [(2, 171), (0, l1), (0, l2), (0, l3), (3, 0), (3, 0), (3, 0)] [] σ Q zno
def xO_close_39 (d : Nat) (l1 l2 l3 : Int) (σ : mM) (Q : mA) : Prop := E1 knS d 109 (jmp 109 39) [(2, 171), (0, l1), (0, l2), (0, l3), (3, 0), (3, 0), (3, 0)] [] σ Q zno
def xO_close_118 (d : Nat) (l1 l2 l3 : Int) (σ : mM) (Q : mA) : Prop := E1 knS d 109 (jmp 109 118) [(2, 171), (0, l1), (0, l2), (0, l3), (3, 0), (3, 0), (3, 0)] [] σ Q zno
def xO_close_47 (d : Nat) (l1 l2 l3 l4 : Int) (σ : mM) (Q : mA) : Prop := E1 knS d 109 (jmp 109 47) [(2, 171), (0, l1), (0, l2), (0, l3), (0, l4), (3, 0), (3, 0)] [] σ Q zno
def xO_close_184 (d : Nat) (l1 l2 l3 : Int) (σ : mM) (Q : mA) : Prop := E1 knS d 109 (jmp 109 184) [(2, 171), (0, l1), (0, l2), (0, l3), (3, 0), (3, 0), (3, 0)] [] σ Q zno
def xO_close_126 (d : Nat) (l1 l2 l3 l4 : Int) (σ : mM) (Q : mA) : Prop := E1 knS d 109 (jmp 109 126) [(2, 171), (0, l1), (0, l2), (0, l3), (0, l4), (3, 0), (3, 0)] [] σ Q zno
def xO_close_56 (d : Nat) (l1 l2 l3 l4 l5 : Int) (σ : mM) (Q : mA) : Prop := E1 knS d 109 (jmp 109 56) [(2, 171), (0, l1), (0, l2), (0, l3), (0, l4), (0, l5), (3, 0)] [] σ Q zno
def xO_close_276 (d : Nat) (l1 l2 l3 : Int) (σ : mM) (Q : mA) : Prop := E1 knS d 109 (jmp 109 276) [(2, 171), (0, l1), (0, l2), (0, l3), (3, 0), (3, 0), (3, 0)] [] σ Q zno
def xO_close_192 (d : Nat) (l1 l2 l3 l4 : Int) (σ : mM) (Q : mA) : Prop := E1 knS d 109 (jmp 109 192) [(2, 171), (0, l1), (0, l2), (0, l3), (0, l4), (3, 0), (3, 0)] [] σ Q zno
/-- MarkHouse$Reader.element()I at (224,) -/
def xR_element (d : Nat) (σ : mM) (Q : mA) (Z : mM → Prop) : Prop := E1 knS d 128 (jmp 128 0) (entL 128 [(2, 224)]) [] σ Q Z
def xR_element_49 (d : Nat) (l2 l3 k0 : Int) (σ : mM) (Q : mA) (Z : mM → Prop) : Prop := E1 knS d 128 (jmp 128 49) [(2, 224), (2, 171), (0, l2), (1, l3), (3, 0), (3, 0)] [(0, k0), (2, 224)] σ Q Z
/-- MarkHouse$Reader.takesSign(I)Z at (224,) -/
def xR_takesSign (d : Nat) (a1 : Int) (σ : mM) (Q : mA) : Prop := E1 knS d 129 (jmp 129 0) (entL 129 [(2, 224), (0, a1)]) [] σ Q zno
/-- MarkHouse$Reader.sortHere()I at (224,) -/
def xR_sortHere (d : Nat) (σ : mM) (Q : mA) : Prop := E1 knS d 133 (jmp 133 0) (entL 133 [(2, 224)]) [] σ Q zno
/-- MarkHouse$Reader.member(I)V at (224,) -/
def xR_member (d : Nat) (a1 : Int) (σ : mM) (Q : mA) (Z : mM → Prop) : Prop := E1 knS d 131 (jmp 131 0) (entL 131 [(2, 224), (0, a1)]) [] σ Q Z
def xR_member_47 (d : Nat) (l1 l2 k0 : Int) (σ : mM) (Q : mA) (Z : mM → Prop) : Prop := E1 knS d 131 (jmp 131 47) [(2, 224), (0, l1), (1, l2), (3, 0), (3, 0)] [(0, k0), (2, 224)] σ Q Z
def xR_member_146 (d : Nat) (l1 l2 l4 k0 k1 : Int) (σ : mM) (Q : mA) (Z : mM → Prop) : Prop := E1 knS d 131 (jmp 131 146) [(2, 224), (0, l1), (1, l2), (3, 0), (0, l4)] [(0, k0), (0, k1), (2, 191)] σ Q Z
def xR_member_111 (d : Nat) (l1 l2 l4 : Int) (σ : mM) (Q : mA) (Z : mM → Prop) : Prop := E1 knS d 131 (jmp 131 111) [(2, 224), (0, l1), (1, l2), (3, 0), (0, l4)] [(2, 224)] σ Q Z
def xR_member_216 (d : Nat) (l1 l2 l4 k0 k1 : Int) (σ : mM) (Q : mA) (Z : mM → Prop) : Prop := E1 knS d 131 (jmp 131 216) [(2, 224), (0, l1), (1, l2), (3, 0), (0, l4)] [(1, k0), (0, k1), (2, 189)] σ Q Z
/-- MarkHouse$Lexemes.isSignHere(I)Z at (162,) -/
def xL_isSignHere (d : Nat) (a1 : Int) (σ : mM) (Q : mA) : Prop := E1 knS d 74 (jmp 74 0) (entL 74 [(2, 162), (0, a1)]) [] σ Q zno
/-- MarkHouse$Reader.marks(II)V at (224,) -/
def xR_marks (d : Nat) (a1 a2 : Int) (σ : mM) (Q : mA) (Z : mM → Prop) : Prop := E1 knS d 134 (jmp 134 0) (entL 134 [(2, 224), (0, a1), (0, a2)]) [] σ Q Z
def xR_marks_35 (d : Nat) (l1 l2 k0 : Int) (σ : mM) (Q : mA) (Z : mM → Prop) : Prop := E1 knS d 134 (jmp 134 35) [(2, 224), (0, l1), (0, l2), (3, 0)] [(0, k0), (2, 224)] σ Q Z
def xR_marks_0 (d : Nat) (l1 l2 : Int) (σ : mM) (Q : mA) (Z : mM → Prop) : Prop := E1 knS d 134 (jmp 134 0) [(2, 224), (0, l1), (0, l2), (3, 0)] [] σ Q Z
/-- MarkHouse$Reader.fail(I)V at (224,) -/
def xR_fail (d : Nat) (a1 : Int) (σ : mM) (Q : mA) (Z : mM → Prop) : Prop := E1 knS d 126 (jmp 126 0) (entL 126 [(2, 224), (0, a1)]) [] σ Q Z
/-- MarkHouse$Reader.name()J at (224,) -/
def xR_name (d : Nat) (σ : mM) (Q : mA) (Z : mM → Prop) : Prop := E1 knS d 124 (jmp 124 0) (entL 124 [(2, 224)]) [] σ Q Z
/-- MarkHouse$Reader.word(I)V at (224,) -/
def xR_word (d : Nat) (a1 : Int) (σ : mM) (Q : mA) (Z : mM → Prop) : Prop := E1 knS d 138 (jmp 138 0) (entL 138 [(2, 224), (0, a1)]) [] σ Q Z
/-- MarkHouse$Program.cls(J)I at (170,) -/
def xP_cls (d : Nat) (a1 : Int) (σ : mM) (Q : mA) : Prop := E1 knS d 94 (jmp 94 0) (entL 94 [(2, 170), (1, a1)]) [] σ Q zno
def xP_cls_2 (d : Nat) (l1 l3 : Int) (σ : mM) (Q : mA) : Prop := E1 knS d 94 (jmp 94 2) [(2, 170), (1, l1), (3, 0), (0, l3)] [] σ Q zno
/-- MarkHouse$Reader.method(I)V at (224,) -/
def xR_method (d : Nat) (a1 : Int) (σ : mM) (Q : mA) (Z : mM → Prop) : Prop := E1 knS d 141 (jmp 141 0) (entL 141 [(2, 224), (0, a1)]) [] σ Q Z
def xR_method_48 (d : Nat) (l1 l2 k0 : Int) (σ : mM) (Q : mA) (Z : mM → Prop) : Prop := E1 knS d 141 (jmp 141 48) [(2, 224), (0, l1), (1, l2), (3, 0), (3, 0)] [(0, k0), (2, 224)] σ Q Z
def xR_method_135 (d : Nat) (l1 l2 l4 : Int) (σ : mM) (Q : mA) (Z : mM → Prop) : Prop := E1 knS d 141 (jmp 141 135) [(2, 224), (0, l1), (1, l2), (3, 0), (0, l4)] [] σ Q Z
def xR_method_184 (d : Nat) (l1 l2 : Int) (σ : mM) (Q : mA) (Z : mM → Prop) : Prop := E1 knS d 141 (jmp 141 184) [(2, 224), (0, l1), (1, l2), (3, 0), (3, 0)] [] σ Q Z
/-- MarkHouse$Reader.field(I)V at (224,) -/
def xR_field (d : Nat) (a1 : Int) (σ : mM) (Q : mA) (Z : mM → Prop) : Prop := E1 knS d 140 (jmp 140 0) (entL 140 [(2, 224), (0, a1)]) [] σ Q Z
def xR_field_48 (d : Nat) (l1 l2 k0 : Int) (σ : mM) (Q : mA) (Z : mM → Prop) : Prop := E1 knS d 140 (jmp 140 48) [(2, 224), (0, l1), (1, l2), (3, 0), (3, 0)] [(0, k0), (2, 224)] σ Q Z
def xR_field_120 (d : Nat) (l1 l2 l4 k0 k1 : Int) (σ : mM) (Q : mA) (Z : mM → Prop) : Prop := E1 knS d 140 (jmp 140 120) [(2, 224), (0, l1), (1, l2), (3, 0), (0, l4)] [(0, k0), (0, k1), (2, 204)] σ Q Z
/-- MarkHouse$Reader.label(J)I at (224,) -/
def xR_label (d : Nat) (a1 : Int) (σ : mM) (Q : mA) : Prop := E1 knS d 145 (jmp 145 0) (entL 145 [(2, 224), (1, a1)]) [] σ Q zno
def xR_label_2 (d : Nat) (l1 l3 : Int) (σ : mM) (Q : mA) : Prop := E1 knS d 145 (jmp 145 2) [(2, 224), (1, l1), (3, 0), (0, l3)] [] σ Q zno
/-- MarkHouse$Program.fieldFrom(IJ)I at (170,) -/
def xP_fieldFrom (d : Nat) (a1 a2 : Int) (σ : mM) (Q : mA) : Prop := E1 knS d 99 (jmp 99 0) (entL 99 [(2, 170), (0, a1), (1, a2)]) [] σ Q zno
def xP_fieldFrom_3 (d : Nat) (l2 l4 : Int) (σ : mM) (Q : mA) : Prop := E1 knS d 99 (jmp 99 3) [(2, 170), (3, 0), (1, l2), (3, 0), (0, l4)] [] σ Q zno
/-- MarkHouse$Program.takes(I)I at (170,) -/
def xP_takes (d : Nat) (a1 : Int) (σ : mM) (Q : mA) : Prop := E1 knS d 91 (jmp 91 0) (entL 91 [(2, 170), (0, a1)]) [] σ Q zno
/-- MarkHouse$Program.gives(I)I at (170,) -/
def xP_gives (d : Nat) (a1 : Int) (σ : mM) (Q : mA) : Prop := E1 knS d 92 (jmp 92 0) (entL 92 [(2, 170), (0, a1)]) [] σ Q zno
/-- MarkHouse$Reader.coded(ZI)V at (224,) -/
def xR_coded (d : Nat) (a1 a2 : Int) (σ : mM) (Q : mA) (Z : mM → Prop) : Prop := E1 knS d 155 (jmp 155 0) (entL 155 [(2, 224), (0, a1), (0, a2)]) [] σ Q Z
/-- MarkHouse$Reader.comes(III)V at (224,) -/
def xR_comes (d : Nat) (a1 a2 a3 : Int) (σ : mM) (Q : mA) (Z : mM → Prop) : Prop := E1 knS d 156 (jmp 156 0) (entL 156 [(2, 224), (0, a1), (0, a2), (0, a3)]) [] σ Q Z
def xR_comes_34 (d : Nat) (l1 l2 l3 : Int) (σ : mM) (Q : mA) (Z : mM → Prop) : Prop := E1 knS d 156 (jmp 156 34) [(2, 224), (0, l1), (0, l2), (0, l3)] [] σ Q Z
/-- java/lang/Math.min(II)I at () -/
def jM_min (d : Nat) (a1 a2 : Int) (σ : mM) (Q : mA) : Prop := E1 knS d 460 (jmp 460 0) (entL 460 [(0, a1), (0, a2)]) [] σ Q zno
/-- MarkHouse$Machine.holds(I)Z at (263,) -/
def xC_holds (d : Nat) (a1 : Int) (σ : mM) (Q : mA) : Prop := E1 knS d 227 (jmp 227 0) (entL 227 [(2, 263), (0, a1)]) [] σ Q zno
def xC_holds_2 (d : Nat) (l1 l2 : Int) (σ : mM) (Q : mA) : Prop := E1 knS d 227 (jmp 227 2) [(2, 263), (0, l1), (0, l2), (3, 0)] [] σ Q zno
/-- MarkHouse$Machine.look(I)V at (263,) -/
def xC_look (d : Nat) (a1 : Int) (σ : mM) (Q : mA) : Prop := E1 knS d 231 (jmp 231 0) (entL 231 [(2, 263), (0, a1)]) [] σ Q zno
def xC_look_2 (d : Nat) (l1 l2 : Int) (σ : mM) (Q : mA) : Prop := E1 knS d 231 (jmp 231 2) [(2, 263), (0, l1), (0, l2), (3, 0)] [] σ Q zno
def xC_look_18 (d : Nat) (l1 l2 l3 : Int) (σ : mM) (Q : mA) : Prop := E1 knS d 231 (jmp 231 18) [(2, 263), (0, l1), (0, l2), (0, l3)] [] σ Q zno
/-- MarkHouse$Machine.call(I)V at (263,) -/
def xC_call (d : Nat) (a1 : Int) (σ : mM) (Q : mA) : Prop := E1 knS d 232 (jmp 232 0) (entL 232 [(2, 263), (0, a1)]) [] σ Q zno
def xC_call_57 (d : Nat) (l3 l4 l5 : Int) (σ : mM) (Q : mA) : Prop := E1 knS d 232 (jmp 232 57) [(2, 263), (3, 0), (3, 0), (0, l3), (0, l4), (0, l5)] [] σ Q zno
/-- MarkHouse$Machine.back()V at (263,) -/
def xC_back (d : Nat) (σ : mM) (Q : mA) : Prop := E1 knS d 234 (jmp 234 0) (entL 234 [(2, 263)]) [] σ Q zno
/-- MarkHouse$Machine.move(II)V at (263,) -/
def xC_move (d : Nat) (a1 a2 : Int) (σ : mM) (Q : mA) : Prop := E1 knS d 236 (jmp 236 0) (entL 236 [(2, 263), (0, a1), (0, a2)]) [] σ Q zno
def xC_move_383 (d : Nat) (l1 l3 l4 l5 k0 k1 : Int) (σ : mM) (Q : mA) : Prop := E1 knS d 236 (jmp 236 383) [(2, 263), (0, l1), (3, 0), (0, l3), (0, l4), (0, l5)] [(0, k0), (0, k1), (2, 263)] σ Q zno
/-- MarkHouseModel.packed(Ljava/lang/String;)J at ('S',) -/
def m_packed (d : Nat) (a1 : Int) (σ : mM) (Q : mA) : Prop := E1 knS d 283 (jmp 283 0) (entL 283 [(2, a1)]) [] σ Q zno
def m_packed_4 (d : Nat) (l0 l1 l3 : Int) (σ : mM) (Q : mA) : Prop := E1 knS d 283 (jmp 283 4) [(2, l0), (1, l1), (3, 0), (0, l3)] [] σ Q zno
/-- MarkHouseModel.newName(II)J at (279,) -/
def m_newName (d : Nat) (a1 a2 : Int) (σ : mM) (Q : mA) : Prop := E1 knS d 290 (jmp 290 0) (entL 290 [(2, 279), (0, a1), (0, a2)]) [] σ Q zno
/-- MarkHouseModel.wantSign(I)V at (279,) -/
def m_wantSign (d : Nat) (a1 : Int) (σ : mM) (Q : mA) : Prop := E1 knS d 298 (jmp 298 0) (entL 298 [(2, 279), (0, a1)]) [] σ Q zno
/-- MarkHouseModel.element(I)I at (279,) -/
def m_element (d : Nat) (a1 : Int) (σ : mM) (Q : mA) : Prop := E1 knS d 301 (jmp 301 0) (entL 301 [(2, 279), (0, a1)]) [] σ Q zno
/-- MarkHouseModel.maySign(I)Z at (279,) -/
def m_maySign (d : Nat) (a1 : Int) (σ : mM) (Q : mA) : Prop := E1 knS d 303 (jmp 303 0) (entL 303 [(2, 279), (0, a1)]) [] σ Q zno
/-- MarkHouseModel.isSignHere(I)Z at (279,) -/
def m_isSignHere (d : Nat) (a1 : Int) (σ : mM) (Q : mA) : Prop := E1 knS d 299 (jmp 299 0) (entL 299 [(2, 279), (0, a1)]) [] σ Q zno
/-- MarkHouseModel.isLattice(I)Z at (279,) -/
def m_isLattice (d : Nat) (a1 : Int) (σ : mM) (Q : mA) : Prop := E1 knS d 304 (jmp 304 0) (entL 304 [(2, 279), (0, a1)]) [] σ Q zno
def m_isLattice_9 (d : Nat) (l1 l2 l3 : Int) (σ : mM) (Q : mA) : Prop := E1 knS d 304 (jmp 304 9) [(2, 279), (0, l1), (0, l2), (0, l3), (3, 0), (3, 0), (3, 0), (3, 0)] [] σ Q zno
def m_isLattice_92 (d : Nat) (l1 l2 l3 l4 : Int) (σ : mM) (Q : mA) : Prop := E1 knS d 304 (jmp 304 92) [(2, 279), (0, l1), (0, l2), (0, l3), (0, l4), (3, 0), (3, 0), (3, 0)] [] σ Q zno
def m_isLattice_17 (d : Nat) (l1 l2 l3 l4 : Int) (σ : mM) (Q : mA) : Prop := E1 knS d 304 (jmp 304 17) [(2, 279), (0, l1), (0, l2), (0, l3), (0, l4), (3, 0), (3, 0), (3, 0)] [] σ Q zno
def m_isLattice_259 (d : Nat) (l1 l2 l3 l4 : Int) (σ : mM) (Q : mA) : Prop := E1 knS d 304 (jmp 304 259) [(2, 279), (0, l1), (0, l2), (0, l3), (0, l4), (3, 0), (3, 0), (3, 0)] [] σ Q zno
def m_isLattice_105 (d : Nat) (l1 l2 l3 l4 l5 : Int) (σ : mM) (Q : mA) : Prop := E1 knS d 304 (jmp 304 105) [(2, 279), (0, l1), (0, l2), (0, l3), (0, l4), (0, l5), (3, 0), (3, 0)] [] σ Q zno
def m_isLattice_26 (d : Nat) (l1 l2 l3 l4 l5 : Int) (σ : mM) (Q : mA) : Prop := E1 knS d 304 (jmp 304 26) [(2, 279), (0, l1), (0, l2), (0, l3), (0, l4), (0, l5), (3, 0), (3, 0)] [] σ Q zno
def m_isLattice_274 (d : Nat) (l1 l2 l3 l4 l5 l6 l7 : Int) (σ : mM) (Q : mA) : Prop := E1 knS d 304 (jmp 304 274) [(2, 279), (0, l1), (0, l2), (0, l3), (0, l4), (0, l5), (0, l6), (0, l7)] [] σ Q zno
def m_isLattice_151 (d : Nat) (l1 l2 l4 l5 k0 : Int) (σ : mM) (Q : mA) : Prop := E1 knS d 304 (jmp 304 151) [(2, 279), (0, l1), (0, l2), (3, 0), (0, l4), (0, l5), (3, 0), (3, 0)] [(0, k0)] σ Q zno
def m_isLattice_302 (d : Nat) (l1 l2 l3 l4 l6 l7 k0 : Int) (σ : mM) (Q : mA) : Prop := E1 knS d 304 (jmp 304 302) [(2, 279), (0, l1), (0, l2), (0, l3), (0, l4), (3, 0), (0, l6), (0, l7)] [(0, k0)] σ Q zno
/-- MarkHouseModel.readMarks(IIZZ)V at (279,) -/
def m_readMarks (d : Nat) (a1 a2 a3 a4 : Int) (σ : mM) (Q : mA) : Prop := E1 knS d 312 (jmp 312 0) (entL 312 [(2, 279), (0, a1), (0, a2), (0, a3), (0, a4)]) [] σ Q zno
def m_readMarks_32 (d : Nat) (l1 l2 l3 : Int) (σ : mM) (Q : mA) : Prop := E1 knS d 312 (jmp 312 32) [(2, 279), (0, l1), (0, l2), (0, l3), (3, 0)] [] σ Q zno
def m_readMarks_74 (d : Nat) (l1 l2 l3 : Int) (σ : mM) (Q : mA) : Prop := E1 knS d 312 (jmp 312 74) [(2, 279), (0, l1), (0, l2), (0, l3), (3, 0)] [] σ Q zno
/-- MarkHouseModel.sortBit(I)I at () -/
def m_sortBit (d : Nat) (a1 : Int) (σ : mM) (Q : mA) : Prop := E1 knS d 311 (jmp 311 0) (entL 311 [(0, a1)]) [] σ Q zno
/-- MarkHouseModel.readMember(I)V at (279,) -/
def m_readMember (d : Nat) (a1 : Int) (σ : mM) (Q : mA) : Prop := E1 knS d 308 (jmp 308 0) (entL 308 [(2, 279), (0, a1)]) [] σ Q zno
def m_readMember_60 (d : Nat) (l1 l3 : Int) (σ : mM) (Q : mA) : Prop := E1 knS d 308 (jmp 308 60) [(2, 279), (0, l1), (3, 0), (1, l3), (3, 0), (3, 0)] [] σ Q zno
def m_readMember_129 (d : Nat) (l1 l5 : Int) (σ : mM) (Q : mA) : Prop := E1 knS d 308 (jmp 308 129) [(2, 279), (0, l1), (3, 0), (3, 0), (3, 0), (0, l5)] [] σ Q zno
/-- MarkHouseModel.wantName()J at (279,) -/
def m_wantName (d : Nat) (σ : mM) (Q : mA) : Prop := E1 knS d 291 (jmp 291 0) (entL 291 [(2, 279)]) [] σ Q zno
/-- MarkHouseModel.classOf(J)I at (279,) -/
def m_classOf (d : Nat) (a1 : Int) (σ : mM) (Q : mA) : Prop := E1 knS d 297 (jmp 297 0) (entL 297 [(2, 279), (1, a1)]) [] σ Q zno
def m_classOf_2 (d : Nat) (l1 l3 : Int) (σ : mM) (Q : mA) : Prop := E1 knS d 297 (jmp 297 2) [(2, 279), (1, l1), (3, 0), (0, l3)] [] σ Q zno
/-- MarkHouseModel.readMethod(I)V at (279,) -/
def m_readMethod (d : Nat) (a1 : Int) (σ : mM) (Q : mA) : Prop := E1 knS d 322 (jmp 322 0) (entL 322 [(2, 279), (0, a1)]) [] σ Q zno
def m_readMethod_21 (d : Nat) (l1 l2 l3 l5 : Int) (σ : mM) (Q : mA) : Prop := E1 knS d 322 (jmp 322 21) [(2, 279), (0, l1), (0, l2), (1, l3), (3, 0), (0, l5), (3, 0), (3, 0)] [] σ Q zno
def m_readMethod_89 (d : Nat) (l1 l3 : Int) (σ : mM) (Q : mA) : Prop := E1 knS d 322 (jmp 322 89) [(2, 279), (0, l1), (3, 0), (1, l3), (3, 0), (3, 0), (3, 0), (3, 0)] [] σ Q zno
def m_readMethod_179 (d : Nat) (l1 l5 l6 l7 : Int) (σ : mM) (Q : mA) : Prop := E1 knS d 322 (jmp 322 179) [(2, 279), (0, l1), (3, 0), (3, 0), (3, 0), (0, l5), (0, l6), (0, l7)] [] σ Q zno
def m_readMethod_210 (d : Nat) (l1 l5 l6 : Int) (σ : mM) (Q : mA) : Prop := E1 knS d 322 (jmp 322 210) [(2, 279), (0, l1), (3, 0), (3, 0), (3, 0), (0, l5), (0, l6), (3, 0)] [] σ Q zno
def m_readMethod_252 (d : Nat) (l5 l7 : Int) (σ : mM) (Q : mA) : Prop := E1 knS d 322 (jmp 322 252) [(2, 279), (3, 0), (3, 0), (3, 0), (3, 0), (0, l5), (3, 0), (0, l7)] [] σ Q zno
/-- MarkHouseModel.readField(I)V at (279,) -/
def m_readField (d : Nat) (a1 : Int) (σ : mM) (Q : mA) : Prop := E1 knS d 321 (jmp 321 0) (entL 321 [(2, 279), (0, a1)]) [] σ Q zno
def m_readField_21 (d : Nat) (l1 l2 l3 l5 : Int) (σ : mM) (Q : mA) : Prop := E1 knS d 321 (jmp 321 21) [(2, 279), (0, l1), (0, l2), (1, l3), (3, 0), (0, l5)] [] σ Q zno
def m_readField_89 (d : Nat) (l1 l3 : Int) (σ : mM) (Q : mA) : Prop := E1 knS d 321 (jmp 321 89) [(2, 279), (0, l1), (3, 0), (1, l3), (3, 0), (3, 0)] [] σ Q zno
/-- MarkHouseModel.methodOf(IJ)I at (279,) -/
def m_methodOf (d : Nat) (a1 a2 : Int) (σ : mM) (Q : mA) : Prop := E1 knS d 333 (jmp 333 0) (entL 333 [(2, 279), (0, a1), (1, a2)]) [] σ Q zno
def m_methodOf_3 (d : Nat) (l2 l4 : Int) (σ : mM) (Q : mA) : Prop := E1 knS d 333 (jmp 333 3) [(2, 279), (3, 0), (1, l2), (3, 0), (0, l4), (3, 0)] [] σ Q zno
def m_methodOf_11 (d : Nat) (l2 l4 l5 : Int) (σ : mM) (Q : mA) : Prop := E1 knS d 333 (jmp 333 11) [(2, 279), (3, 0), (1, l2), (3, 0), (0, l4), (0, l5)] [] σ Q zno
/-- MarkHouseModel.fieldOf(IJ)I at (279,) -/
def m_fieldOf (d : Nat) (a1 a2 : Int) (σ : mM) (Q : mA) : Prop := E1 knS d 334 (jmp 334 0) (entL 334 [(2, 279), (0, a1), (1, a2)]) [] σ Q zno
def m_fieldOf_3 (d : Nat) (l2 l4 : Int) (σ : mM) (Q : mA) : Prop := E1 knS d 334 (jmp 334 3) [(2, 279), (3, 0), (1, l2), (3, 0), (0, l4), (3, 0)] [] σ Q zno
def m_fieldOf_11 (d : Nat) (l2 l4 l5 : Int) (σ : mM) (Q : mA) : Prop := E1 knS d 334 (jmp 334 11) [(2, 279), (3, 0), (1, l2), (3, 0), (0, l4), (0, l5)] [] σ Q zno
/-- java/lang/String.coder()B at ('S',) -/
def jS_coder (d : Nat) (a0 : Int) (σ : mM) (Q : mA) : Prop := E1 knS d 449 (jmp 449 0) (entL 449 [(2, a0)]) [] σ Q zno
/-- java/lang/String.isLatin1()Z at ('S',) -/
def jS_isLatin1 (d : Nat) (a0 : Int) (σ : mM) (Q : mA) : Prop := E1 knS d 451 (jmp 451 0) (entL 451 [(2, a0)]) [] σ Q zno
/-- java/lang/StringLatin1.charAt([BI)C at ('S',) -/
def jL_charAt (d : Nat) (a1 a2 : Int) (σ : mM) (Q : mA) : Prop := E1 knS d 455 (jmp 455 0) (entL 455 [(2, a1), (0, a2)]) [] σ Q zno
/-- MarkHouseModel.hasPair(IJ)Z at (279,) -/
def m_hasPair (d : Nat) (a1 a2 : Int) (σ : mM) (Q : mA) : Prop := E1 knS d 391 (jmp 391 0) (entL 391 [(2, 279), (0, a1), (1, a2)]) [] σ Q zno
def m_hasPair_6 (d : Nat) (l1 l2 l4 l5 : Int) (σ : mM) (Q : mA) : Prop := E1 knS d 391 (jmp 391 6) [(2, 279), (0, l1), (1, l2), (3, 0), (0, l4), (0, l5)] [] σ Q zno
/-- MarkHouseModel.toldOf(II)I at (279,) -/
def m_toldOf (d : Nat) (a1 a2 : Int) (σ : mM) (Q : mA) : Prop := E1 knS d 408 (jmp 408 0) (entL 408 [(2, 279), (0, a1), (0, a2)]) [] σ Q zno
def m_toldOf_10 (d : Nat) (l1 l2 l3 l4 : Int) (σ : mM) (Q : mA) : Prop := E1 knS d 408 (jmp 408 10) [(2, 279), (0, l1), (0, l2), (0, l3), (0, l4)] [] σ Q zno
/-- MarkHouseModel.checksOf(I)I at (279,) -/
def m_checksOf (d : Nat) (a1 : Int) (σ : mM) (Q : mA) : Prop := E1 knS d 396 (jmp 396 0) (entL 396 [(2, 279), (0, a1)]) [] σ Q zno
def m_checksOf_4 (d : Nat) (l1 l2 l3 : Int) (σ : mM) (Q : mA) : Prop := E1 knS d 396 (jmp 396 4) [(2, 279), (0, l1), (0, l2), (0, l3)] [] σ Q zno
/-- MarkHouseModel.wantsOne(IIII)V at (279,) -/
def m_wantsOne (d : Nat) (a1 a2 a3 a4 : Int) (σ : mM) (Q : mA) : Prop := E1 knS d 443 (jmp 443 0) (entL 443 [(2, 279), (0, a1), (0, a2), (0, a3), (0, a4)]) [] σ Q zno
def m_wantsOne_31 (d : Nat) (l1 l2 l3 l4 k0 : Int) (σ : mM) (Q : mA) : Prop := E1 knS d 443 (jmp 443 31) [(2, 279), (0, l1), (0, l2), (0, l3), (0, l4), (3, 0), (3, 0), (3, 0), (3, 0), (3, 0), (3, 0), (3, 0), (3, 0)] [(0, k0)] σ Q zno
def m_wantsOne_45 (d : Nat) (l1 l2 l3 l4 l5 l6 : Int) (σ : mM) (Q : mA) : Prop := E1 knS d 443 (jmp 443 45) [(2, 279), (0, l1), (0, l2), (0, l3), (0, l4), (0, l5), (1, l6), (3, 0), (3, 0), (3, 0), (3, 0), (3, 0), (3, 0)] [] σ Q zno
def m_wantsOne_56 (d : Nat) (l1 l2 l3 l4 l5 l6 l8 : Int) (σ : mM) (Q : mA) : Prop := E1 knS d 443 (jmp 443 56) [(2, 279), (0, l1), (0, l2), (0, l3), (0, l4), (0, l5), (1, l6), (3, 0), (0, l8), (3, 0), (3, 0), (3, 0), (3, 0)] [] σ Q zno
def m_wantsOne_99 (d : Nat) (l1 l2 l5 l6 l9 l10 l11 l12 : Int) (σ : mM) (Q : mA) : Prop := E1 knS d 443 (jmp 443 99) [(2, 279), (0, l1), (0, l2), (3, 0), (3, 0), (0, l5), (1, l6), (3, 0), (3, 0), (0, l9), (0, l10), (0, l11), (0, l12)] [] σ Q zno
def m_wantsOne_170 (d : Nat) (l1 l2 l9 l10 l11 : Int) (σ : mM) (Q : mA) : Prop := E1 knS d 443 (jmp 443 170) [(2, 279), (0, l1), (0, l2), (3, 0), (3, 0), (3, 0), (3, 0), (3, 0), (3, 0), (0, l9), (0, l10), (0, l11), (3, 0)] [] σ Q zno
def m_wantsOne_195 (d : Nat) (l1 l2 l9 l11 : Int) (σ : mM) (Q : mA) : Prop := E1 knS d 443 (jmp 443 195) [(2, 279), (0, l1), (0, l2), (3, 0), (3, 0), (3, 0), (3, 0), (3, 0), (3, 0), (0, l9), (3, 0), (0, l11), (3, 0)] [] σ Q zno
/-- MarkHouse$Attributes.text()J at (234,) -/
def xA_text (d : Nat) (σ : mM) (Q : mA) : Prop := E1 knS d 186 (jmp 186 0) (entL 186 [(2, 234)]) [] σ Q zno
def xA_text_13 (d : Nat) (l1 l2 l4 : Int) (σ : mM) (Q : mA) : Prop := E1 knS d 186 (jmp 186 13) [(2, 234), (0, l1), (1, l2), (3, 0), (0, l4), (3, 0)] [] σ Q zno
/-- MarkHouse$Marks.addPair(IJIJ)V at (180,) -/
def xM_addPair (d : Nat) (a1 a2 a3 a4 : Int) (σ : mM) (Q : mA) : Prop := E1 knS d 116 (jmp 116 0) (entL 116 [(2, 180), (0, a1), (1, a2), (0, a3), (1, a4)]) [] σ Q zno
/-- MarkHouse$Passing.know(J)V at (226,) -/
def xS_know (d : Nat) (a1 : Int) (σ : mM) (Q : mA) : Prop := E1 knS d 169 (jmp 169 0) (entL 169 [(2, 226), (1, a1)]) [] σ Q zno
def xS_know_2 (d : Nat) (l1 l3 : Int) (σ : mM) (Q : mA) : Prop := E1 knS d 169 (jmp 169 2) [(2, 226), (1, l1), (3, 0), (0, l3)] [] σ Q zno
/-- MarkHouse$Program.method(IJ)I at (170,) -/
def xP_method (d : Nat) (a1 a2 : Int) (σ : mM) (Q : mA) : Prop := E1 knS d 86 (jmp 86 0) (entL 86 [(2, 170), (0, a1), (1, a2)]) [] σ Q zno
def xP_method_3 (d : Nat) (l1 l2 l4 : Int) (σ : mM) (Q : mA) : Prop := E1 knS d 86 (jmp 86 3) [(2, 170), (0, l1), (1, l2), (3, 0), (0, l4)] [] σ Q zno
/-- MarkHouse$Flow.first(I[BI)V at (235, 237) -/
def xF_first' (d : Nat) (a1 a3 : Int) (σ : mM) (Q : mA) : Prop := E1 knS d 196 (jmp 196 0) (entL 196 [(2, 235), (0, a1), (2, 237), (0, a3)]) [] σ Q zno
def xF_first'_3 (d : Nat) (l1 l3 l4 : Int) (σ : mM) (Q : mA) : Prop := E1 knS d 196 (jmp 196 3) [(2, 235), (0, l1), (2, 237), (0, l3), (0, l4)] [] σ Q zno
def xF_first'_26 (d : Nat) (l1 l3 l4 : Int) (σ : mM) (Q : mA) : Prop := E1 knS d 196 (jmp 196 26) [(2, 235), (0, l1), (2, 237), (0, l3), (0, l4)] [] σ Q zno
/-- MarkHouse$Flow.pass(I[BI[BZ)V at (235, 237, 239) -/
def xF_pass' (d : Nat) (a1 a3 a5 : Int) (σ : mM) (Q : mA) : Prop := E1 knS d 197 (jmp 197 0) (entL 197 [(2, 235), (0, a1), (2, 237), (0, a3), (2, 239), (0, a5)]) [] σ Q zno
def xF_pass'_453 (d : Nat) (l9 : Int) (σ : mM) (Q : mA) : Prop := E1 knS d 197 (jmp 197 453) [(3, 0), (3, 0), (3, 0), (3, 0), (2, 239), (3, 0), (3, 0), (3, 0), (3, 0), (0, l9)] [] σ Q zno
def xF_pass'_148 (d : Nat) (l1 l7 l8 : Int) (σ : mM) (Q : mA) : Prop := E1 knS d 197 (jmp 197 148) [(2, 235), (0, l1), (3, 0), (3, 0), (2, 239), (3, 0), (3, 0), (0, l7), (0, l8), (3, 0)] [] σ Q zno
def xF_pass'_305 (d : Nat) (l7 l8 : Int) (σ : mM) (Q : mA) : Prop := E1 knS d 197 (jmp 197 305) [(2, 235), (3, 0), (3, 0), (3, 0), (2, 239), (3, 0), (3, 0), (0, l7), (0, l8), (3, 0)] [] σ Q zno
/-- MarkHouse$Flow.comes(II)V at (235,) -/
def xF_comes (d : Nat) (a1 a2 : Int) (σ : mM) (Q : mA) : Prop := E1 knS d 198 (jmp 198 0) (entL 198 [(2, 235), (0, a1), (0, a2)]) [] σ Q zno
def xF_comes_28 (d : Nat) (l2 l3 l4 l5 : Int) (σ : mM) (Q : mA) : Prop := E1 knS d 198 (jmp 198 28) [(2, 235), (3, 0), (0, l2), (0, l3), (0, l4), (0, l5), (3, 0)] [] σ Q zno
def xF_comes_92 (d : Nat) (l2 l3 l4 l5 k0 : Int) (σ : mM) (Q : mA) : Prop := E1 knS d 198 (jmp 198 92) [(2, 235), (3, 0), (0, l2), (0, l3), (0, l4), (0, l5), (3, 0)] [(0, k0)] σ Q zno
/-- MarkHouse$Flow.first(I[BI)V at (245, 247) -/
def xF_first'' (d : Nat) (a1 a3 : Int) (σ : mM) (Q : mA) : Prop := E1 knS d 196 (jmp 196 0) (entL 196 [(2, 245), (0, a1), (2, 247), (0, a3)]) [] σ Q zno
def xF_first''_3 (d : Nat) (l1 l3 l4 : Int) (σ : mM) (Q : mA) : Prop := E1 knS d 196 (jmp 196 3) [(2, 245), (0, l1), (2, 247), (0, l3), (0, l4)] [] σ Q zno
def xF_first''_26 (d : Nat) (l1 l3 l4 : Int) (σ : mM) (Q : mA) : Prop := E1 knS d 196 (jmp 196 26) [(2, 245), (0, l1), (2, 247), (0, l3), (0, l4)] [] σ Q zno
/-- MarkHouse$Flow.pass(I[BI[BZ)V at (245, 247, 249) -/
def xF_pass'' (d : Nat) (a1 a3 a5 : Int) (σ : mM) (Q : mA) : Prop := E1 knS d 197 (jmp 197 0) (entL 197 [(2, 245), (0, a1), (2, 247), (0, a3), (2, 249), (0, a5)]) [] σ Q zno
def xF_pass''_453 (d : Nat) (l9 : Int) (σ : mM) (Q : mA) : Prop := E1 knS d 197 (jmp 197 453) [(3, 0), (3, 0), (3, 0), (3, 0), (2, 249), (3, 0), (3, 0), (3, 0), (3, 0), (0, l9)] [] σ Q zno
def xF_pass''_148 (d : Nat) (l1 l7 l8 : Int) (σ : mM) (Q : mA) : Prop := E1 knS d 197 (jmp 197 148) [(2, 245), (0, l1), (3, 0), (3, 0), (2, 249), (3, 0), (3, 0), (0, l7), (0, l8), (3, 0)] [] σ Q zno
def xF_pass''_305 (d : Nat) (l7 l8 : Int) (σ : mM) (Q : mA) : Prop := E1 knS d 197 (jmp 197 305) [(2, 245), (3, 0), (3, 0), (3, 0), (2, 249), (3, 0), (3, 0), (0, l7), (0, l8), (3, 0)] [] σ Q zno
/-- MarkHouse$Flow.comes(II)V at (245,) -/
def xF_comes' (d : Nat) (a1 a2 : Int) (σ : mM) (Q : mA) : Prop := E1 knS d 198 (jmp 198 0) (entL 198 [(2, 245), (0, a1), (0, a2)]) [] σ Q zno
def xF_comes'_28 (d : Nat) (l2 l3 l4 l5 : Int) (σ : mM) (Q : mA) : Prop := E1 knS d 198 (jmp 198 28) [(2, 245), (3, 0), (0, l2), (0, l3), (0, l4), (0, l5), (3, 0)] [] σ Q zno
def xF_comes'_92 (d : Nat) (l2 l3 l4 l5 k0 : Int) (σ : mM) (Q : mA) : Prop := E1 knS d 198 (jmp 198 92) [(2, 245), (3, 0), (0, l2), (0, l3), (0, l4), (0, l5), (3, 0)] [(0, k0)] σ Q zno
/-- MarkHouse$Weaver.many(I)I at (261,) -/
def xV_many (d : Nat) (a1 : Int) (σ : mM) (Q : mA) : Prop := E1 knS d 214 (jmp 214 0) (entL 214 [(2, 261), (0, a1)]) [] σ Q zno
def xV_many_4 (d : Nat) (l1 l2 l3 : Int) (σ : mM) (Q : mA) : Prop := E1 knS d 214 (jmp 214 4) [(2, 261), (0, l1), (0, l2), (0, l3)] [] σ Q zno
/-- MarkHouse$Wirer.wants(III)V at (273,) -/
def xI_wants1 (d : Nat) (a1 a2 a3 : Int) (σ : mM) (Q : mA) : Prop := E1 knS d 247 (jmp 247 0) (entL 247 [(2, 273), (0, a1), (0, a2), (0, a3)]) [] σ Q zno
def xI_wants1_18 (d : Nat) (l1 l2 l3 : Int) (σ : mM) (Q : mA) : Prop := E1 knS d 247 (jmp 247 18) [(2, 273), (0, l1), (0, l2), (0, l3), (3, 0), (3, 0), (3, 0), (3, 0), (3, 0), (3, 0), (3, 0), (3, 0), (3, 0)] [] σ Q zno
def xI_wants1_28 (d : Nat) (l1 l2 l3 k0 : Int) (σ : mM) (Q : mA) : Prop := E1 knS d 247 (jmp 247 28) [(2, 273), (0, l1), (0, l2), (0, l3), (3, 0), (3, 0), (3, 0), (3, 0), (3, 0), (3, 0), (3, 0), (3, 0), (3, 0)] [(1, k0)] σ Q zno
def xI_wants1_40 (d : Nat) (l1 l2 l3 l4 k0 : Int) (σ : mM) (Q : mA) : Prop := E1 knS d 247 (jmp 247 40) [(2, 273), (0, l1), (0, l2), (0, l3), (1, l4), (3, 0), (3, 0), (3, 0), (3, 0), (3, 0), (3, 0), (3, 0), (3, 0)] [(1, k0)] σ Q zno
def xI_wants1_52 (d : Nat) (l1 l2 l4 l6 k0 : Int) (σ : mM) (Q : mA) : Prop := E1 knS d 247 (jmp 247 52) [(2, 273), (0, l1), (0, l2), (3, 0), (1, l4), (3, 0), (1, l6), (3, 0), (3, 0), (3, 0), (3, 0), (3, 0), (3, 0)] [(1, k0)] σ Q zno
def xI_wants1_84 (d : Nat) (l1 l2 l6 l8 l9 l10 l11 l12 : Int) (σ : mM) (Q : mA) : Prop := E1 knS d 247 (jmp 247 84) [(2, 273), (0, l1), (0, l2), (3, 0), (3, 0), (3, 0), (1, l6), (3, 0), (0, l8), (0, l9), (0, l10), (0, l11), (0, l12)] [] σ Q zno
def xI_wants1_164 (d : Nat) (l1 l2 l8 l10 l11 : Int) (σ : mM) (Q : mA) : Prop := E1 knS d 247 (jmp 247 164) [(2, 273), (0, l1), (0, l2), (3, 0), (3, 0), (3, 0), (3, 0), (3, 0), (0, l8), (3, 0), (0, l10), (0, l11), (3, 0)] [] σ Q zno
def xI_wants1_132 (d : Nat) (l1 l2 l6 l8 l9 l10 l11 l12 : Int) (σ : mM) (Q : mA) : Prop := E1 knS d 247 (jmp 247 132) [(2, 273), (0, l1), (0, l2), (3, 0), (3, 0), (3, 0), (1, l6), (3, 0), (0, l8), (0, l9), (0, l10), (0, l11), (0, l12)] [] σ Q zno
/-- MarkHouse$Lexemes.here(I)I at (162,) -/
def xL_here (d : Nat) (a1 : Int) (σ : mM) (Q : mA) : Prop := E1 knS d 65 (jmp 65 0) (entL 65 [(2, 162), (0, a1)]) [] σ Q zno
/-- MarkHouse$Lexemes.isSign(I)Z at () -/
def xL_isSign (d : Nat) (a1 : Int) (σ : mM) (Q : mA) : Prop := E1 knS d 61 (jmp 61 0) (entL 61 [(0, a1)]) [] σ Q zno
/-- java/lang/String.indexOf(II)I at ('S',) -/
def jS_indexOf1 (d : Nat) (a0 a1 a2 : Int) (σ : mM) (Q : mA) : Prop := E1 knS d 454 (jmp 454 0) (entL 454 [(2, a0), (0, a1), (0, a2)]) [] σ Q zno
/-- MarkHouse$Program.isTaken(J)Z at (170,) -/
def xP_isTaken (d : Nat) (a1 : Int) (σ : mM) (Q : mA) : Prop := E1 knS d 96 (jmp 96 0) (entL 96 [(2, 170), (1, a1)]) [] σ Q zno
def xP_isTaken_2 (d : Nat) (l1 l3 : Int) (σ : mM) (Q : mA) : Prop := E1 knS d 96 (jmp 96 2) [(2, 170), (1, l1), (3, 0), (0, l3)] [] σ Q zno
/-- MarkHouse$Orders.bound(IIIZ)I at (171,) -/
def xO_bound (d : Nat) (a1 a2 a3 a4 : Int) (σ : mM) (Q : mA) : Prop := E1 knS d 110 (jmp 110 0) (entL 110 [(2, 171), (0, a1), (0, a2), (0, a3), (0, a4)]) [] σ Q zno
def xO_bound_6 (d : Nat) (l1 l2 l3 l4 l5 l6 : Int) (σ : mM) (Q : mA) : Prop := E1 knS d 110 (jmp 110 6) [(2, 171), (0, l1), (0, l2), (0, l3), (0, l4), (0, l5), (0, l6), (3, 0)] [] σ Q zno
def xO_bound_137 (d : Nat) (l1 l2 l3 l4 l5 l6 : Int) (σ : mM) (Q : mA) : Prop := E1 knS d 110 (jmp 110 137) [(2, 171), (0, l1), (0, l2), (0, l3), (0, l4), (0, l5), (0, l6), (3, 0)] [] σ Q zno
def xO_bound_79 (d : Nat) (l1 l2 l3 l4 l5 l6 k0 : Int) (σ : mM) (Q : mA) : Prop := E1 knS d 110 (jmp 110 79) [(2, 171), (0, l1), (0, l2), (0, l3), (0, l4), (0, l5), (0, l6), (3, 0)] [(0, k0)] σ Q zno
def xO_bound_216 (d : Nat) (l1 l2 l3 l4 l5 l6 k0 : Int) (σ : mM) (Q : mA) : Prop := E1 knS d 110 (jmp 110 216) [(2, 171), (0, l1), (0, l2), (0, l3), (0, l4), (0, l5), (0, l6), (3, 0)] [(0, k0)] σ Q zno
/-- MarkHouse$Reader.value(I)J at (224,) -/
def xR_value (d : Nat) (a1 : Int) (σ : mM) (Q : mA) (Z : mM → Prop) : Prop := E1 knS d 132 (jmp 132 0) (entL 132 [(2, 224), (0, a1)]) [] σ Q Z
def xR_value_16 (d : Nat) (l1 k0 : Int) (σ : mM) (Q : mA) (Z : mM → Prop) : Prop := E1 knS d 132 (jmp 132 16) [(2, 224), (0, l1), (3, 0), (3, 0), (3, 0), (3, 0), (3, 0)] [(0, k0)] σ Q Z
def xR_value_60 (d : Nat) (l1 l2 k0 : Int) (σ : mM) (Q : mA) (Z : mM → Prop) : Prop := E1 knS d 132 (jmp 132 60) [(2, 224), (0, l1), (0, l2), (3, 0), (3, 0), (3, 0), (3, 0)] [(0, k0), (2, 224)] σ Q Z
def xR_value_84 (d : Nat) (l2 k0 : Int) (σ : mM) (Q : mA) (Z : mM → Prop) : Prop := E1 knS d 132 (jmp 132 84) [(2, 224), (3, 0), (0, l2), (3, 0), (3, 0), (3, 0), (3, 0)] [(0, k0), (2, 224)] σ Q Z
def xR_value_118 (d : Nat) (l2 l4 k0 : Int) (σ : mM) (Q : mA) (Z : mM → Prop) : Prop := E1 knS d 132 (jmp 132 118) [(2, 224), (3, 0), (0, l2), (3, 0), (0, l4), (3, 0), (3, 0)] [(0, k0), (2, 224)] σ Q Z
/-- MarkHouse$Reader.mark(IIZ)V at (224,) -/
def xR_mark (d : Nat) (a1 a2 a3 : Int) (σ : mM) (Q : mA) (Z : mM → Prop) : Prop := E1 knS d 135 (jmp 135 0) (entL 135 [(2, 224), (0, a1), (0, a2), (0, a3)]) [] σ Q Z
def xR_mark_58 (d : Nat) (l1 l2 l3 l4 l6 l7 l8 k0 : Int) (σ : mM) (Q : mA) (Z : mM → Prop) : Prop := E1 knS d 135 (jmp 135 58) [(2, 224), (0, l1), (0, l2), (0, l3), (1, l4), (3, 0), (0, l6), (0, l7), (0, l8), (3, 0), (3, 0), (3, 0), (3, 0)] [(0, k0), (2, 224)] σ Q Z
def xR_mark_103 (d : Nat) (l1 l2 l3 l4 l6 l7 l8 k0 : Int) (σ : mM) (Q : mA) (Z : mM → Prop) : Prop := E1 knS d 135 (jmp 135 103) [(2, 224), (0, l1), (0, l2), (0, l3), (1, l4), (3, 0), (0, l6), (0, l7), (0, l8), (3, 0), (3, 0), (3, 0), (3, 0)] [(0, k0), (2, 224)] σ Q Z
def xR_mark_184 (d : Nat) (l1 l3 l4 l6 l7 l8 k0 : Int) (σ : mM) (Q : mA) (Z : mM → Prop) : Prop := E1 knS d 135 (jmp 135 184) [(2, 224), (0, l1), (3, 0), (0, l3), (1, l4), (3, 0), (0, l6), (0, l7), (0, l8), (3, 0), (3, 0), (3, 0), (3, 0)] [(0, k0)] σ Q Z
def xR_mark_228 (d : Nat) (l3 l6 l7 l8 k0 k1 k2 : Int) (σ : mM) (Q : mA) (Z : mM → Prop) : Prop := E1 knS d 135 (jmp 135 228) [(2, 224), (3, 0), (3, 0), (0, l3), (3, 0), (3, 0), (0, l6), (0, l7), (0, l8), (3, 0), (3, 0), (3, 0), (3, 0)] [(0, k0), (1, k1), (0, k2), (2, 180)] σ Q Z
def xR_mark_336 (d : Nat) (l6 l8 l10 l11 : Int) (σ : mM) (Q : mA) (Z : mM → Prop) : Prop := E1 knS d 135 (jmp 135 336) [(2, 224), (3, 0), (3, 0), (3, 0), (3, 0), (3, 0), (0, l6), (3, 0), (0, l8), (3, 0), (0, l10), (0, l11), (3, 0)] [] σ Q Z
def xR_mark_280 (d : Nat) (l10 l11 k0 : Int) (σ : mM) (Q : mA) (Z : mM → Prop) : Prop := E1 knS d 135 (jmp 135 280) [(2, 224), (3, 0), (3, 0), (3, 0), (3, 0), (3, 0), (3, 0), (3, 0), (3, 0), (3, 0), (0, l10), (1, l11), (3, 0)] [(0, k0), (2, 224)] σ Q Z
/-- MarkHouse$Lexemes.name()J at (162,) -/
def xL_name1 (d : Nat) (σ : mM) (Q : mA) : Prop := E1 knS d 73 (jmp 73 0) (entL 73 [(2, 162)]) [] σ Q zno
/-- MarkHouse$Reader.parameter()V at (224,) -/
def xR_parameter (d : Nat) (σ : mM) (Q : mA) (Z : mM → Prop) : Prop := E1 knS d 142 (jmp 142 0) (entL 142 [(2, 224)]) [] σ Q Z
def xR_parameter_53 (d : Nat) (l1 k0 : Int) (σ : mM) (Q : mA) (Z : mM → Prop) : Prop := E1 knS d 142 (jmp 142 53) [(2, 224), (1, l1), (3, 0)] [(0, k0), (2, 224)] σ Q Z
/-- MarkHouse$Reader.act()V at (224,) -/
def xR_act (d : Nat) (σ : mM) (Q : mA) (Z : mM → Prop) : Prop := E1 knS d 143 (jmp 143 0) (entL 143 [(2, 224)]) [] σ Q Z
def xR_act_24 (d : Nat) (k0 : Int) (σ : mM) (Q : mA) (Z : mM → Prop) : Prop := E1 knS d 143 (jmp 143 24) [(2, 224), (3, 0), (3, 0), (3, 0)] [(0, k0), (2, 224)] σ Q Z
def xR_act_79 (d : Nat) (k0 : Int) (σ : mM) (Q : mA) (Z : mM → Prop) : Prop := E1 knS d 143 (jmp 143 79) [(2, 224), (3, 0), (3, 0), (3, 0)] [(0, k0), (2, 224)] σ Q Z
def xR_act_180 (d : Nat) (l1 : Int) (σ : mM) (Q : mA) (Z : mM → Prop) : Prop := E1 knS d 143 (jmp 143 180) [(2, 224), (0, l1), (3, 0), (3, 0)] [] σ Q Z
/-- MarkHouse$Program.field(IJ)I at (170,) -/
def xP_field (d : Nat) (a1 a2 : Int) (σ : mM) (Q : mA) : Prop := E1 knS d 97 (jmp 97 0) (entL 97 [(2, 170), (0, a1), (1, a2)]) [] σ Q zno
def xP_field_3 (d : Nat) (l1 l2 l4 : Int) (σ : mM) (Q : mA) : Prop := E1 knS d 97 (jmp 97 3) [(2, 170), (0, l1), (1, l2), (3, 0), (0, l4)] [] σ Q zno
/-- MarkHouse$Machine.cell(I)I at (263,) -/
def xC_cell (d : Nat) (a1 : Int) (σ : mM) (Q : mA) : Prop := E1 knS d 228 (jmp 228 0) (entL 228 [(2, 263), (0, a1)]) [] σ Q zno
/-- MarkHouse$Machine.isBelow(III)Z at (263,) -/
def xC_isBelow (d : Nat) (a1 a2 a3 : Int) (σ : mM) (Q : mA) : Prop := E1 knS d 230 (jmp 230 0) (entL 230 [(2, 263), (0, a1), (0, a2), (0, a3)]) [] σ Q zno
/-- MarkHouse$Machine.drop(I)V at (263,) -/
def xC_drop (d : Nat) (a1 : Int) (σ : mM) (Q : mA) : Prop := E1 knS d 233 (jmp 233 0) (entL 233 [(2, 263), (0, a1)]) [] σ Q zno
/-- MarkHouse$Machine.base()I at (263,) -/
def xC_base (d : Nat) (σ : mM) (Q : mA) : Prop := E1 knS d 229 (jmp 229 0) (entL 229 [(2, 263)]) [] σ Q zno
/-- MarkHouse$Machine.push(II)V at (263,) -/
def xC_push (d : Nat) (a1 a2 : Int) (σ : mM) (Q : mA) : Prop := E1 knS d 235 (jmp 235 0) (entL 235 [(2, 263), (0, a1), (0, a2)]) [] σ Q zno
/-- MarkHouse$Machine.two(I)V at (263,) -/
def xC_two (d : Nat) (a1 : Int) (σ : mM) (Q : mA) : Prop := E1 knS d 240 (jmp 240 0) (entL 240 [(2, 263), (0, a1)]) [] σ Q zno
def xC_two_28 (d : Nat) (l1 l2 l3 l4 l5 : Int) (σ : mM) (Q : mA) : Prop := E1 knS d 240 (jmp 240 28) [(2, 263), (0, l1), (0, l2), (0, l3), (0, l4), (0, l5)] [] σ Q zno
/-- MarkHouse$Machine.told(I)I at (263,) -/
def xC_told (d : Nat) (a1 : Int) (σ : mM) (Q : mA) : Prop := E1 knS d 237 (jmp 237 0) (entL 237 [(2, 263), (0, a1)]) [] σ Q zno
def xC_told_4 (d : Nat) (l1 l2 l3 : Int) (σ : mM) (Q : mA) : Prop := E1 knS d 237 (jmp 237 4) [(2, 263), (0, l1), (0, l2), (0, l3), (3, 0)] [] σ Q zno
/-- MarkHouse$Machine.read(I)V at (263,) -/
def xC_read (d : Nat) (a1 : Int) (σ : mM) (Q : mA) : Prop := E1 knS d 238 (jmp 238 0) (entL 238 [(2, 263), (0, a1)]) [] σ Q zno
def xC_read_35 (d : Nat) (l1 l2 : Int) (σ : mM) (Q : mA) : Prop := E1 knS d 238 (jmp 238 35) [(2, 263), (0, l1), (0, l2)] [] σ Q zno
/-- MarkHouse$Machine.goal(I)I at (263,) -/
def xC_goal (d : Nat) (a1 : Int) (σ : mM) (Q : mA) : Prop := E1 knS d 239 (jmp 239 0) (entL 239 [(2, 263), (0, a1)]) [] σ Q zno
/-- MarkHouseModel.isTaken(J)Z at (279,) -/
def m_isTaken (d : Nat) (a1 : Int) (σ : mM) (Q : mA) : Prop := E1 knS d 293 (jmp 293 0) (entL 293 [(2, 279), (1, a1)]) [] σ Q zno
/-- MarkHouseModel.least(IIIZ)I at (279,) -/
def m_least (d : Nat) (a1 a2 a3 a4 : Int) (σ : mM) (Q : mA) : Prop := E1 knS d 306 (jmp 306 0) (entL 306 [(2, 279), (0, a1), (0, a2), (0, a3), (0, a4)]) [] σ Q zno
def m_least_11 (d : Nat) (l1 l2 l3 l4 l5 l6 : Int) (σ : mM) (Q : mA) : Prop := E1 knS d 306 (jmp 306 11) [(2, 279), (0, l1), (0, l2), (0, l3), (0, l4), (0, l5), (0, l6), (3, 0), (3, 0), (3, 0)] [] σ Q zno
def m_least_85 (d : Nat) (l1 l2 l3 l4 l5 l6 l7 l8 : Int) (σ : mM) (Q : mA) : Prop := E1 knS d 306 (jmp 306 85) [(2, 279), (0, l1), (0, l2), (0, l3), (0, l4), (0, l5), (0, l6), (0, l7), (0, l8), (3, 0)] [] σ Q zno
def m_least_159 (d : Nat) (l1 l2 l3 l4 l5 l6 l7 l8 k0 : Int) (σ : mM) (Q : mA) : Prop := E1 knS d 306 (jmp 306 159) [(2, 279), (0, l1), (0, l2), (0, l3), (0, l4), (0, l5), (0, l6), (0, l7), (0, l8), (3, 0)] [(0, k0)] σ Q zno
/-- MarkHouseModel.readMark(IIZ)V at (279,) -/
def m_readMark (d : Nat) (a1 a2 a3 : Int) (σ : mM) (Q : mA) : Prop := E1 knS d 313 (jmp 313 0) (entL 313 [(2, 279), (0, a1), (0, a2), (0, a3)]) [] σ Q zno
def m_readMark_34 (d : Nat) (l1 l2 l4 : Int) (σ : mM) (Q : mA) : Prop := E1 knS d 313 (jmp 313 34) [(2, 279), (0, l1), (0, l2), (3, 0), (0, l4), (3, 0), (3, 0), (3, 0), (3, 0), (3, 0), (3, 0), (3, 0), (3, 0), (3, 0), (3, 0)] [] σ Q zno
def m_readMark_115 (d : Nat) (l1 l2 l4 l5 l6 l8 l9 : Int) (σ : mM) (Q : mA) : Prop := E1 knS d 313 (jmp 313 115) [(2, 279), (0, l1), (0, l2), (3, 0), (0, l4), (0, l5), (1, l6), (3, 0), (0, l8), (0, l9), (3, 0), (3, 0), (3, 0), (3, 0), (3, 0)] [] σ Q zno
def m_readMark_143 (d : Nat) (l1 l2 l4 l5 l6 l8 l9 : Int) (σ : mM) (Q : mA) : Prop := E1 knS d 313 (jmp 313 143) [(2, 279), (0, l1), (0, l2), (3, 0), (0, l4), (0, l5), (1, l6), (3, 0), (0, l8), (0, l9), (3, 0), (3, 0), (3, 0), (3, 0), (3, 0)] [] σ Q zno
def m_readMark_210 (d : Nat) (l1 l4 l5 l6 l8 l9 : Int) (σ : mM) (Q : mA) : Prop := E1 knS d 313 (jmp 313 210) [(2, 279), (0, l1), (3, 0), (3, 0), (0, l4), (0, l5), (1, l6), (3, 0), (0, l8), (0, l9), (3, 0), (3, 0), (3, 0), (3, 0), (3, 0)] [] σ Q zno
def m_readMark_341 (d : Nat) (l5 l9 l11 l12 : Int) (σ : mM) (Q : mA) : Prop := E1 knS d 313 (jmp 313 341) [(2, 279), (3, 0), (3, 0), (3, 0), (3, 0), (0, l5), (3, 0), (3, 0), (3, 0), (0, l9), (3, 0), (0, l11), (0, l12), (3, 0), (3, 0)] [] σ Q zno
def m_readMark_377 (d : Nat) (l5 l9 l11 l12 l13 l14 : Int) (σ : mM) (Q : mA) : Prop := E1 knS d 313 (jmp 313 377) [(2, 279), (3, 0), (3, 0), (3, 0), (3, 0), (0, l5), (3, 0), (3, 0), (3, 0), (0, l9), (3, 0), (0, l11), (0, l12), (0, l13), (0, l14)] [] σ Q zno
/-- MarkHouseModel.wantValue(ZZ)V at (279,) -/
def m_wantValue (d : Nat) (a1 a2 : Int) (σ : mM) (Q : mA) : Prop := E1 knS d 310 (jmp 310 0) (entL 310 [(2, 279), (0, a1), (0, a2)]) [] σ Q zno
def m_wantValue_31 (d : Nat) (l1 l2 l3 k0 : Int) (σ : mM) (Q : mA) : Prop := E1 knS d 310 (jmp 310 31) [(2, 279), (0, l1), (0, l2), (0, l3), (3, 0), (3, 0), (3, 0)] [(0, k0)] σ Q zno
def m_wantValue_72 (d : Nat) (l1 l2 l3 l4 : Int) (σ : mM) (Q : mA) : Prop := E1 knS d 310 (jmp 310 72) [(2, 279), (0, l1), (0, l2), (0, l3), (0, l4), (3, 0), (3, 0)] [] σ Q zno
def m_wantValue_110 (d : Nat) (l1 : Int) (σ : mM) (Q : mA) : Prop := E1 knS d 310 (jmp 310 110) [(2, 279), (0, l1), (3, 0), (3, 0), (3, 0), (3, 0), (3, 0)] [] σ Q zno
def m_wantValue_140 (d : Nat) (l6 : Int) (σ : mM) (Q : mA) : Prop := E1 knS d 310 (jmp 310 140) [(2, 279), (3, 0), (3, 0), (3, 0), (3, 0), (3, 0), (0, l6)] [] σ Q zno
/-- MarkHouseModel.readParameter(II)V at (279,) -/
def m_readParameter (d : Nat) (a1 a2 : Int) (σ : mM) (Q : mA) : Prop := E1 knS d 323 (jmp 323 0) (entL 323 [(2, 279), (0, a1), (0, a2)]) [] σ Q zno
def m_readParameter_22 (d : Nat) (l1 l2 l3 l4 l6 : Int) (σ : mM) (Q : mA) : Prop := E1 knS d 323 (jmp 323 22) [(2, 279), (0, l1), (0, l2), (0, l3), (1, l4), (3, 0), (0, l6)] [] σ Q zno
def m_readParameter_90 (d : Nat) (l1 l2 l4 : Int) (σ : mM) (Q : mA) : Prop := E1 knS d 323 (jmp 323 90) [(2, 279), (0, l1), (0, l2), (3, 0), (1, l4), (3, 0), (3, 0)] [] σ Q zno
/-- MarkHouseModel.readAct(I)V at (279,) -/
def m_readAct (d : Nat) (a1 : Int) (σ : mM) (Q : mA) : Prop := E1 knS d 324 (jmp 324 0) (entL 324 [(2, 279), (0, a1)]) [] σ Q zno
def m_readAct_46 (d : Nat) (l1 k0 : Int) (σ : mM) (Q : mA) : Prop := E1 knS d 324 (jmp 324 46) [(2, 279), (0, l1), (3, 0), (3, 0), (3, 0), (3, 0), (3, 0), (3, 0), (3, 0)] [(0, k0)] σ Q zno
def m_readAct_90 (d : Nat) (l1 l3 l4 k0 : Int) (σ : mM) (Q : mA) : Prop := E1 knS d 324 (jmp 324 90) [(2, 279), (0, l1), (3, 0), (0, l3), (0, l4), (3, 0), (3, 0), (3, 0), (3, 0)] [(0, k0)] σ Q zno
def m_readAct_121 (d : Nat) (l1 l3 l4 l5 l6 l8 : Int) (σ : mM) (Q : mA) : Prop := E1 knS d 324 (jmp 324 121) [(2, 279), (0, l1), (3, 0), (0, l3), (0, l4), (0, l5), (1, l6), (3, 0), (0, l8)] [] σ Q zno
def m_readAct_264 (d : Nat) (l1 l3 l4 l6 : Int) (σ : mM) (Q : mA) : Prop := E1 knS d 324 (jmp 324 264) [(2, 279), (0, l1), (3, 0), (0, l3), (0, l4), (3, 0), (1, l6), (3, 0), (3, 0)] [] σ Q zno
def m_readAct_190 (d : Nat) (l1 l3 l4 l5 l6 : Int) (σ : mM) (Q : mA) : Prop := E1 knS d 324 (jmp 324 190) [(2, 279), (0, l1), (3, 0), (0, l3), (0, l4), (0, l5), (1, l6), (3, 0), (3, 0)] [] σ Q zno
/-- java/lang/String.checkIndex(II)V at () -/
def jS_checkIndex (d : Nat) (a1 a2 : Int) (σ : mM) (Q : mA) : Prop := E1 knS d 452 (jmp 452 0) (entL 452 [(0, a1), (0, a2)]) [] σ Q zno
/-- MarkHouseModel.hasText(IIJ)Z at (279,) -/
def m_hasText (d : Nat) (a1 a2 a3 : Int) (σ : mM) (Q : mA) : Prop := E1 knS d 444 (jmp 444 0) (entL 444 [(2, 279), (0, a1), (0, a2), (1, a3)]) [] σ Q zno
/-- MarkHouseModel.isUnder(II)Z at (279,) -/
def m_isUnder (d : Nat) (a1 a2 : Int) (σ : mM) (Q : mA) : Prop := E1 knS d 445 (jmp 445 0) (entL 445 [(2, 279), (0, a1), (0, a2)]) [] σ Q zno
def m_isUnder_2 (d : Nat) (l2 l3 : Int) (σ : mM) (Q : mA) : Prop := E1 knS d 445 (jmp 445 2) [(2, 279), (3, 0), (0, l2), (0, l3)] [] σ Q zno
/-- MarkHouseModel.wires(III)V at (279,) -/
def m_wires (d : Nat) (a1 a2 a3 : Int) (σ : mM) (Q : mA) : Prop := E1 knS d 446 (jmp 446 0) (entL 446 [(2, 279), (0, a1), (0, a2), (0, a3)]) [] σ Q zno
/-- MarkHouse$Passing.given(IJ)I at (226,) -/
def xS_given (d : Nat) (a1 a2 : Int) (σ : mM) (Q : mA) : Prop := E1 knS d 170 (jmp 170 0) (entL 170 [(2, 226), (0, a1), (1, a2)]) [] σ Q zno
def xS_given_10 (d : Nat) (l2 l4 l5 : Int) (σ : mM) (Q : mA) : Prop := E1 knS d 170 (jmp 170 10) [(2, 226), (3, 0), (1, l2), (3, 0), (0, l4), (0, l5), (3, 0)] [] σ Q zno
def xS_given_64 (d : Nat) (l4 l5 : Int) (σ : mM) (Q : mA) : Prop := E1 knS d 170 (jmp 170 64) [(2, 226), (3, 0), (3, 0), (3, 0), (0, l4), (0, l5), (3, 0)] [] σ Q zno
/-- MarkHouse$Wirer.tell(III)V at (273,) -/
def xI_tell (d : Nat) (a1 a2 a3 : Int) (σ : mM) (Q : mA) : Prop := E1 knS d 249 (jmp 249 0) (entL 249 [(2, 273), (0, a1), (0, a2), (0, a3)]) [] σ Q zno
/-- MarkHouse$Wirer.isOf(II)Z at (273,) -/
def xI_isOf (d : Nat) (a1 a2 : Int) (σ : mM) (Q : mA) : Prop := E1 knS d 248 (jmp 248 0) (entL 248 [(2, 273), (0, a1), (0, a2)]) [] σ Q zno
def xI_isOf_2 (d : Nat) (l2 l3 : Int) (σ : mM) (Q : mA) : Prop := E1 knS d 248 (jmp 248 2) [(2, 273), (3, 0), (0, l2), (0, l3)] [] σ Q zno
/-- java/lang/StringLatin1.indexOf([BIII)I at ('S',) -/
def jL_indexOf (d : Nat) (a1 a2 a3 a4 : Int) (σ : mM) (Q : mA) : Prop := E1 knS d 456 (jmp 456 0) (entL 456 [(2, a1), (0, a2), (0, a3), (0, a4)]) [] σ Q zno
/-- MarkHouse$Reader.pairs(II)V at (224,) -/
def xR_pairs (d : Nat) (a1 a2 : Int) (σ : mM) (Q : mA) (Z : mM → Prop) : Prop := E1 knS d 136 (jmp 136 0) (entL 136 [(2, 224), (0, a1), (0, a2)]) [] σ Q Z
def xR_pairs_2 (d : Nat) (l1 l2 l3 : Int) (σ : mM) (Q : mA) (Z : mM → Prop) : Prop := E1 knS d 136 (jmp 136 2) [(2, 224), (0, l1), (0, l2), (0, l3), (3, 0), (3, 0), (3, 0), (3, 0)] [] σ Q Z
def xR_pairs_63 (d : Nat) (l1 l2 l4 l6 k0 : Int) (σ : mM) (Q : mA) (Z : mM → Prop) : Prop := E1 knS d 136 (jmp 136 63) [(2, 224), (0, l1), (0, l2), (3, 0), (1, l4), (3, 0), (0, l6), (3, 0)] [(0, k0), (2, 224)] σ Q Z
/-- MarkHouse$Program.local(IJ)I at (170,) -/
def xP_local (d : Nat) (a1 a2 : Int) (σ : mM) (Q : mA) : Prop := E1 knS d 98 (jmp 98 0) (entL 98 [(2, 170), (0, a1), (1, a2)]) [] σ Q zno
def xP_local_3 (d : Nat) (l1 l2 l4 : Int) (σ : mM) (Q : mA) : Prop := E1 knS d 98 (jmp 98 3) [(2, 170), (0, l1), (1, l2), (3, 0), (0, l4)] [] σ Q zno
/-- MarkHouse$Reader.isAct()Z at (224,) -/
def xR_isAct (d : Nat) (σ : mM) (Q : mA) : Prop := E1 knS d 144 (jmp 144 0) (entL 144 [(2, 224)]) [] σ Q zno
/-- MarkHouse$Reader.rest(I)V at (224,) -/
def xR_rest (d : Nat) (a1 : Int) (σ : mM) (Q : mA) (Z : mM → Prop) : Prop := E1 knS d 146 (jmp 146 0) (entL 146 [(2, 224), (0, a1)]) [] σ Q Z
def xR_rest_194 (d : Nat) (l1 : Int) (σ : mM) (Q : mA) (Z : mM → Prop) : Prop := E1 knS d 146 (jmp 146 194) [(2, 224), (0, l1)] [] σ Q Z
/-- MarkHouseModel.makerOf(J)I at (279,) -/
def m_makerOf (d : Nat) (a1 : Int) (σ : mM) (Q : mA) : Prop := E1 knS d 296 (jmp 296 0) (entL 296 [(2, 279), (1, a1)]) [] σ Q zno
def m_makerOf_2 (d : Nat) (l1 l3 : Int) (σ : mM) (Q : mA) : Prop := E1 knS d 296 (jmp 296 2) [(2, 279), (1, l1), (3, 0), (0, l3)] [] σ Q zno
/-- MarkHouseModel.readPairs(II)V at (279,) -/
def m_readPairs (d : Nat) (a1 a2 : Int) (σ : mM) (Q : mA) : Prop := E1 knS d 318 (jmp 318 0) (entL 318 [(2, 279), (0, a1), (0, a2)]) [] σ Q zno
def m_readPairs_2 (d : Nat) (l1 l2 l3 : Int) (σ : mM) (Q : mA) : Prop := E1 knS d 318 (jmp 318 2) [(2, 279), (0, l1), (0, l2), (0, l3), (3, 0), (3, 0), (3, 0), (3, 0), (3, 0)] [] σ Q zno
def m_readPairs_62 (d : Nat) (l1 l2 l4 l5 l7 l8 : Int) (σ : mM) (Q : mA) : Prop := E1 knS d 318 (jmp 318 62) [(2, 279), (0, l1), (0, l2), (3, 0), (0, l4), (1, l5), (3, 0), (0, l7), (0, l8)] [] σ Q zno
/-- MarkHouseModel.parts(II)V at (279,) -/
def m_parts (d : Nat) (a1 a2 : Int) (σ : mM) (Q : mA) : Prop := E1 knS d 325 (jmp 325 0) (entL 325 [(2, 279), (0, a1), (0, a2)]) [] σ Q zno
def m_parts_124 (d : Nat) (l2 : Int) (σ : mM) (Q : mA) : Prop := E1 knS d 325 (jmp 325 124) [(2, 279), (3, 0), (0, l2), (3, 0), (3, 0)] [] σ Q zno
/-- jdk/internal/util/Preconditions.checkIndex(IILjava/util/function/BiFunction;)I at () -/
def jP_checkIndex (d : Nat) (a1 a2 : Int) (σ : mM) (Q : mA) : Prop := E1 knS d 459 (jmp 459 0) (entL 459 [(0, a1), (0, a2), (4, 0)]) [] σ Q zno
/-- java/lang/StringLatin1.canEncode(I)Z at () -/
def jL_canEncode (d : Nat) (a1 : Int) (σ : mM) (Q : mA) : Prop := E1 knS d 457 (jmp 457 0) (entL 457 [(0, a1)]) [] σ Q zno
/-- java/lang/Math.max(II)I at () -/
def jM_max (d : Nat) (a1 a2 : Int) (σ : mM) (Q : mA) : Prop := E1 knS d 461 (jmp 461 0) (entL 461 [(0, a1), (0, a2)]) [] σ Q zno
/-- java/lang/StringLatin1.indexOfChar([BIII)I at ('S',) -/
def jL_indexOfChar (d : Nat) (a1 a2 a3 a4 : Int) (σ : mM) (Q : mA) : Prop := E1 knS d 458 (jmp 458 0) (entL 458 [(2, a1), (0, a2), (0, a3), (0, a4)]) [] σ Q zno
def jL_indexOfChar_7 (d : Nat) (l0 l3 l4 l5 : Int) (σ : mM) (Q : mA) : Prop := E1 knS d 458 (jmp 458 7) [(2, l0), (3, 0), (3, 0), (0, l3), (0, l4), (0, l5)] [] σ Q zno
/-- MarkHouse$Reader.elements(I)V at (224,) -/
def xR_elements (d : Nat) (a1 : Int) (σ : mM) (Q : mA) (Z : mM → Prop) : Prop := E1 knS d 147 (jmp 147 0) (entL 147 [(2, 224), (0, a1)]) [] σ Q Z
def xR_elements_26 (d : Nat) (l1 l2 l3 : Int) (σ : mM) (Q : mA) (Z : mM → Prop) : Prop := E1 knS d 147 (jmp 147 26) [(2, 224), (0, l1), (0, l2), (0, l3), (3, 0), (3, 0)] [] σ Q Z
/-- MarkHouse$Reader.store(I)V at (224,) -/
def xR_store (d : Nat) (a1 : Int) (σ : mM) (Q : mA) (Z : mM → Prop) : Prop := E1 knS d 148 (jmp 148 0) (entL 148 [(2, 224), (0, a1)]) [] σ Q Z
def xR_store_52 (d : Nat) (l1 l2 l4 k0 : Int) (σ : mM) (Q : mA) (Z : mM → Prop) : Prop := E1 knS d 148 (jmp 148 52) [(2, 224), (0, l1), (1, l2), (3, 0), (0, l4)] [(0, k0), (2, 224)] σ Q Z
/-- MarkHouse$Reader.goal(I)V at (224,) -/
def xR_goal (d : Nat) (a1 : Int) (σ : mM) (Q : mA) (Z : mM → Prop) : Prop := E1 knS d 150 (jmp 150 0) (entL 150 [(2, 224), (0, a1)]) [] σ Q Z
/-- MarkHouse$Reader.point(I)V at (224,) -/
def xR_point (d : Nat) (a1 : Int) (σ : mM) (Q : mA) (Z : mM → Prop) : Prop := E1 knS d 151 (jmp 151 0) (entL 151 [(2, 224), (0, a1)]) [] σ Q Z
def xR_point_26 (d : Nat) (l1 l2 k0 : Int) (σ : mM) (Q : mA) (Z : mM → Prop) : Prop := E1 knS d 151 (jmp 151 26) [(2, 224), (0, l1), (0, l2), (3, 0)] [(0, k0), (2, 224)] σ Q Z
def xR_point_76 (d : Nat) (l1 l2 l3 k0 : Int) (σ : mM) (Q : mA) (Z : mM → Prop) : Prop := E1 knS d 151 (jmp 151 76) [(2, 224), (0, l1), (0, l2), (0, l3)] [(0, k0), (2, 224)] σ Q Z
/-- MarkHouse$Reader.taken()J at (224,) -/
def xR_taken (d : Nat) (σ : mM) (Q : mA) (Z : mM → Prop) : Prop := E1 knS d 149 (jmp 149 0) (entL 149 [(2, 224)]) [] σ Q Z
/-- MarkHouseModel.toldMarks(I)V at (279,) -/
def m_toldMarks (d : Nat) (a1 : Int) (σ : mM) (Q : mA) : Prop := E1 knS d 326 (jmp 326 0) (entL 326 [(2, 279), (0, a1)]) [] σ Q zno
def m_toldMarks_43 (d : Nat) (l1 l2 : Int) (σ : mM) (Q : mA) : Prop := E1 knS d 326 (jmp 326 43) [(2, 279), (0, l1), (0, l2), (3, 0), (3, 0)] [] σ Q zno
/-- MarkHouseModel.slot(II)V at (279,) -/
def m_slot (d : Nat) (a1 a2 : Int) (σ : mM) (Q : mA) : Prop := E1 knS d 327 (jmp 327 0) (entL 327 [(2, 279), (0, a1), (0, a2)]) [] σ Q zno
def m_slot_87 (d : Nat) (l1 l2 l4 : Int) (σ : mM) (Q : mA) : Prop := E1 knS d 327 (jmp 327 87) [(2, 279), (0, l1), (0, l2), (3, 0), (1, l4), (3, 0)] [] σ Q zno
/-- MarkHouseModel.elementOfAct(I)V at (279,) -/
def m_elementOfAct (d : Nat) (a1 : Int) (σ : mM) (Q : mA) : Prop := E1 knS d 329 (jmp 329 0) (entL 329 [(2, 279), (0, a1)]) [] σ Q zno
def m_elementOfAct_49 (d : Nat) (l1 : Int) (σ : mM) (Q : mA) : Prop := E1 knS d 329 (jmp 329 49) [(2, 279), (0, l1), (3, 0), (3, 0), (3, 0)] [] σ Q zno
/-- MarkHouseModel.localOf(IJ)I at (279,) -/
def m_localOf (d : Nat) (a1 a2 : Int) (σ : mM) (Q : mA) : Prop := E1 knS d 328 (jmp 328 0) (entL 328 [(2, 279), (0, a1), (1, a2)]) [] σ Q zno
def m_localOf_3 (d : Nat) (l1 l2 l4 : Int) (σ : mM) (Q : mA) : Prop := E1 knS d 328 (jmp 328 3) [(2, 279), (0, l1), (1, l2), (3, 0), (0, l4)] [] σ Q zno
