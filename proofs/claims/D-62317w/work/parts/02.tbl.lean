-- ===== PART A: goes FIRST, ahead of the names: the tables' words, and 'selects' of the private methods out of them =====
/-- a private method of a class that the tables say can be made, by its rows of tables_1 -/
def lw_okq (q : MethodName × Nat) : Prop := (q.1.cls ≠ "java/lang/invoke/MethodHandle" ∧ q.1.cls ≠ "java/lang/invoke/VarHandle") ∧ Cond.instantiable q.1.cls q.2 ∈ tables_1 ∧ Cond.privateMethod q.1 ∈ tables_1 ∧ Cond.instanceMethod q.1 ∈ tables_1
set_option maxRecDepth 20000 in
theorem lw_p0 : lw_okq (⟨"NestedStore", "find", "(I)LNestedStore$Transaction;"⟩, 14) := ⟨⟨by decide +kernel, by decide +kernel⟩, List.mem_of_getElem? (i := 19) (by rfl), List.mem_of_getElem? (i := 113) (by rfl), List.mem_of_getElem? (i := 114) (by rfl)⟩
set_option maxRecDepth 20000 in
theorem lw_p1 : lw_okq (⟨"NestedStore", "lacks", "(I)Z"⟩, 14) := ⟨⟨by decide +kernel, by decide +kernel⟩, List.mem_of_getElem? (i := 19) (by rfl), List.mem_of_getElem? (i := 122) (by rfl), List.mem_of_getElem? (i := 123) (by rfl)⟩
set_option maxRecDepth 20000 in
theorem lw_p2 : lw_okq (⟨"NestedStore", "last", "()I"⟩, 14) := ⟨⟨by decide +kernel, by decide +kernel⟩, List.mem_of_getElem? (i := 19) (by rfl), List.mem_of_getElem? (i := 127) (by rfl), List.mem_of_getElem? (i := 128) (by rfl)⟩
set_option maxRecDepth 20000 in
theorem lw_p3 : lw_okq (⟨"NestedStore", "note", "(LNestedStore$Kind;LNestedStore$Transaction;I)LNestedStore$Entry;"⟩, 14) := ⟨⟨by decide +kernel, by decide +kernel⟩, List.mem_of_getElem? (i := 19) (by rfl), List.mem_of_getElem? (i := 181) (by rfl), List.mem_of_getElem? (i := 182) (by rfl)⟩
set_option maxRecDepth 20000 in
theorem lw_p4 : lw_okq (⟨"NestedStore", "make", "(LNestedStore$Transaction;LNestedStore$Request;)I"⟩, 14) := ⟨⟨by decide +kernel, by decide +kernel⟩, List.mem_of_getElem? (i := 19) (by rfl), List.mem_of_getElem? (i := 273) (by rfl), List.mem_of_getElem? (i := 274) (by rfl)⟩
set_option maxRecDepth 20000 in
theorem lw_p5 : lw_okq (⟨"NestedStore", "there", "(I)Z"⟩, 14) := ⟨⟨by decide +kernel, by decide +kernel⟩, List.mem_of_getElem? (i := 19) (by rfl), List.mem_of_getElem? (i := 287) (by rfl), List.mem_of_getElem? (i := 288) (by rfl)⟩
set_option maxRecDepth 20000 in
theorem lw_p6 : lw_okq (⟨"NestedStore", "at", "(I)LNestedStore$Page;"⟩, 14) := ⟨⟨by decide +kernel, by decide +kernel⟩, List.mem_of_getElem? (i := 19) (by rfl), List.mem_of_getElem? (i := 291) (by rfl), List.mem_of_getElem? (i := 292) (by rfl)⟩
set_option maxRecDepth 20000 in
theorem lw_p7 : lw_okq (⟨"NestedStore", "place", "(I)I"⟩, 14) := ⟨⟨by decide +kernel, by decide +kernel⟩, List.mem_of_getElem? (i := 19) (by rfl), List.mem_of_getElem? (i := 295) (by rfl), List.mem_of_getElem? (i := 296) (by rfl)⟩
set_option maxRecDepth 20000 in
theorem lw_p8 : lw_okq (⟨"NestedStore", "next", "(I)I"⟩, 14) := ⟨⟨by decide +kernel, by decide +kernel⟩, List.mem_of_getElem? (i := 19) (by rfl), List.mem_of_getElem? (i := 303) (by rfl), List.mem_of_getElem? (i := 304) (by rfl)⟩
set_option maxRecDepth 20000 in
theorem lw_p9 : lw_okq (⟨"NestedStore", "seek", "(LNestedStore$Transaction;IIZ)J"⟩, 14) := ⟨⟨by decide +kernel, by decide +kernel⟩, List.mem_of_getElem? (i := 19) (by rfl), List.mem_of_getElem? (i := 308) (by rfl), List.mem_of_getElem? (i := 309) (by rfl)⟩
set_option maxRecDepth 20000 in
theorem lw_p10 : lw_okq (⟨"NestedStore", "update", "(LNestedStore$Transaction;IZI)Z"⟩, 14) := ⟨⟨by decide +kernel, by decide +kernel⟩, List.mem_of_getElem? (i := 19) (by rfl), List.mem_of_getElem? (i := 352) (by rfl), List.mem_of_getElem? (i := 353) (by rfl)⟩
set_option maxRecDepth 20000 in
theorem lw_p11 : lw_okq (⟨"NestedStore", "touch", "(I)LNestedStore$Page;"⟩, 14) := ⟨⟨by decide +kernel, by decide +kernel⟩, List.mem_of_getElem? (i := 19) (by rfl), List.mem_of_getElem? (i := 356) (by rfl), List.mem_of_getElem? (i := 357) (by rfl)⟩
set_option maxRecDepth 20000 in
theorem lw_p12 : lw_okq (⟨"NestedStore", "bring", "(LNestedStore$Page;)V"⟩, 14) := ⟨⟨by decide +kernel, by decide +kernel⟩, List.mem_of_getElem? (i := 19) (by rfl), List.mem_of_getElem? (i := 360) (by rfl), List.mem_of_getElem? (i := 361) (by rfl)⟩
set_option maxRecDepth 20000 in
theorem lw_p13 : lw_okq (⟨"NestedStore", "circles", "(LNestedStore$Transaction;)V"⟩, 14) := ⟨⟨by decide +kernel, by decide +kernel⟩, List.mem_of_getElem? (i := 19) (by rfl), List.mem_of_getElem? (i := 405) (by rfl), List.mem_of_getElem? (i := 406) (by rfl)⟩
set_option maxRecDepth 20000 in
theorem lw_p14 : lw_okq (⟨"NestedStore", "reach", "(LNestedStore$Transaction;)J"⟩, 14) := ⟨⟨by decide +kernel, by decide +kernel⟩, List.mem_of_getElem? (i := 19) (by rfl), List.mem_of_getElem? (i := 409) (by rfl), List.mem_of_getElem? (i := 410) (by rfl)⟩
set_option maxRecDepth 20000 in
theorem lw_p15 : lw_okq (⟨"NestedStore", "leads", "(LNestedStore$Transaction;)J"⟩, 14) := ⟨⟨by decide +kernel, by decide +kernel⟩, List.mem_of_getElem? (i := 19) (by rfl), List.mem_of_getElem? (i := 413) (by rfl), List.mem_of_getElem? (i := 414) (by rfl)⟩
def lw_privs_1 : List (MethodName × Nat) := [(⟨"NestedStore", "find", "(I)LNestedStore$Transaction;"⟩, 14), (⟨"NestedStore", "lacks", "(I)Z"⟩, 14), (⟨"NestedStore", "last", "()I"⟩, 14), (⟨"NestedStore", "note", "(LNestedStore$Kind;LNestedStore$Transaction;I)LNestedStore$Entry;"⟩, 14), (⟨"NestedStore", "make", "(LNestedStore$Transaction;LNestedStore$Request;)I"⟩, 14), (⟨"NestedStore", "there", "(I)Z"⟩, 14), (⟨"NestedStore", "at", "(I)LNestedStore$Page;"⟩, 14), (⟨"NestedStore", "place", "(I)I"⟩, 14), (⟨"NestedStore", "next", "(I)I"⟩, 14), (⟨"NestedStore", "seek", "(LNestedStore$Transaction;IIZ)J"⟩, 14), (⟨"NestedStore", "update", "(LNestedStore$Transaction;IZI)Z"⟩, 14), (⟨"NestedStore", "touch", "(I)LNestedStore$Page;"⟩, 14), (⟨"NestedStore", "bring", "(LNestedStore$Page;)V"⟩, 14), (⟨"NestedStore", "circles", "(LNestedStore$Transaction;)V"⟩, 14), (⟨"NestedStore", "reach", "(LNestedStore$Transaction;)J"⟩, 14), (⟨"NestedStore", "leads", "(LNestedStore$Transaction;)J"⟩, 14)]
theorem lw_r1 : ∀ q ∈ lw_privs_1, lw_okq q := List.forall_mem_cons.mpr ⟨lw_p0, List.forall_mem_cons.mpr ⟨lw_p1, List.forall_mem_cons.mpr ⟨lw_p2, List.forall_mem_cons.mpr ⟨lw_p3, List.forall_mem_cons.mpr ⟨lw_p4, List.forall_mem_cons.mpr ⟨lw_p5, List.forall_mem_cons.mpr ⟨lw_p6, List.forall_mem_cons.mpr ⟨lw_p7, List.forall_mem_cons.mpr ⟨lw_p8, List.forall_mem_cons.mpr ⟨lw_p9, List.forall_mem_cons.mpr ⟨lw_p10, List.forall_mem_cons.mpr ⟨lw_p11, List.forall_mem_cons.mpr ⟨lw_p12, List.forall_mem_cons.mpr ⟨lw_p13, List.forall_mem_cons.mpr ⟨lw_p14, List.forall_mem_cons.mpr ⟨lw_p15, fun _ h => absurd h List.not_mem_nil⟩⟩⟩⟩⟩⟩⟩⟩⟩⟩⟩⟩⟩⟩⟩⟩
set_option maxRecDepth 20000 in
theorem lw_p16 : lw_okq (⟨"NestedStore", "fall", "(LNestedStore$Transaction;)I"⟩, 14) := ⟨⟨by decide +kernel, by decide +kernel⟩, List.mem_of_getElem? (i := 19) (by rfl), List.mem_of_getElem? (i := 426) (by rfl), List.mem_of_getElem? (i := 427) (by rfl)⟩
set_option maxRecDepth 20000 in
theorem lw_p17 : lw_okq (⟨"NestedStore", "back", "(LNestedStore$Transaction;I)I"⟩, 14) := ⟨⟨by decide +kernel, by decide +kernel⟩, List.mem_of_getElem? (i := 19) (by rfl), List.mem_of_getElem? (i := 430) (by rfl), List.mem_of_getElem? (i := 431) (by rfl)⟩
set_option maxRecDepth 20000 in
theorem lw_p18 : lw_okq (⟨"NestedStore", "undo", "(LNestedStore$Entry;LNestedStore$Transaction;)V"⟩, 14) := ⟨⟨by decide +kernel, by decide +kernel⟩, List.mem_of_getElem? (i := 19) (by rfl), List.mem_of_getElem? (i := 438) (by rfl), List.mem_of_getElem? (i := 439) (by rfl)⟩
set_option maxRecDepth 20000 in
theorem lw_p19 : lw_okq (⟨"NestedStore", "redo", "()V"⟩, 14) := ⟨⟨by decide +kernel, by decide +kernel⟩, List.mem_of_getElem? (i := 19) (by rfl), List.mem_of_getElem? (i := 546) (by rfl), List.mem_of_getElem? (i := 547) (by rfl)⟩
set_option maxRecDepth 20000 in
theorem lw_p20 : lw_okq (⟨"NestedStoreModel", "active", "(I)Z"⟩, 39) := ⟨⟨by decide +kernel, by decide +kernel⟩, List.mem_of_getElem? (i := 598) (by rfl), List.mem_of_getElem? (i := 727) (by rfl), List.mem_of_getElem? (i := 728) (by rfl)⟩
set_option maxRecDepth 20000 in
theorem lw_p21 : lw_okq (⟨"NestedStoreModel", "is", "(I)Z"⟩, 39) := ⟨⟨by decide +kernel, by decide +kernel⟩, List.mem_of_getElem? (i := 598) (by rfl), List.mem_of_getElem? (i := 731) (by rfl), List.mem_of_getElem? (i := 732) (by rfl)⟩
set_option maxRecDepth 20000 in
theorem lw_p22 : lw_okq (⟨"NestedStoreModel", "depth", "(I)I"⟩, 39) := ⟨⟨by decide +kernel, by decide +kernel⟩, List.mem_of_getElem? (i := 598) (by rfl), List.mem_of_getElem? (i := 735) (by rfl), List.mem_of_getElem? (i := 736) (by rfl)⟩
set_option maxRecDepth 20000 in
theorem lw_p23 : lw_okq (⟨"NestedStoreModel", "full", "()Z"⟩, 39) := ⟨⟨by decide +kernel, by decide +kernel⟩, List.mem_of_getElem? (i := 598) (by rfl), List.mem_of_getElem? (i := 739) (by rfl), List.mem_of_getElem? (i := 740) (by rfl)⟩
set_option maxRecDepth 20000 in
theorem lw_p24 : lw_okq (⟨"NestedStoreModel", "opens", "()I"⟩, 39) := ⟨⟨by decide +kernel, by decide +kernel⟩, List.mem_of_getElem? (i := 598) (by rfl), List.mem_of_getElem? (i := 743) (by rfl), List.mem_of_getElem? (i := 744) (by rfl)⟩
set_option maxRecDepth 20000 in
theorem lw_p25 : lw_okq (⟨"NestedStoreModel", "open", "(I)Z"⟩, 39) := ⟨⟨by decide +kernel, by decide +kernel⟩, List.mem_of_getElem? (i := 598) (by rfl), List.mem_of_getElem? (i := 747) (by rfl), List.mem_of_getElem? (i := 748) (by rfl)⟩
set_option maxRecDepth 20000 in
theorem lw_p26 : lw_okq (⟨"NestedStoreModel", "top", "(I)I"⟩, 39) := ⟨⟨by decide +kernel, by decide +kernel⟩, List.mem_of_getElem? (i := 598) (by rfl), List.mem_of_getElem? (i := 751) (by rfl), List.mem_of_getElem? (i := 752) (by rfl)⟩
set_option maxRecDepth 20000 in
theorem lw_p27 : lw_okq (⟨"NestedStoreModel", "undone", "(I)Z"⟩, 39) := ⟨⟨by decide +kernel, by decide +kernel⟩, List.mem_of_getElem? (i := 598) (by rfl), List.mem_of_getElem? (i := 755) (by rfl), List.mem_of_getElem? (i := 756) (by rfl)⟩
set_option maxRecDepth 20000 in
theorem lw_p28 : lw_okq (⟨"NestedStoreModel", "lives", "()I"⟩, 39) := ⟨⟨by decide +kernel, by decide +kernel⟩, List.mem_of_getElem? (i := 598) (by rfl), List.mem_of_getElem? (i := 759) (by rfl), List.mem_of_getElem? (i := 760) (by rfl)⟩
set_option maxRecDepth 20000 in
theorem lw_p29 : lw_okq (⟨"NestedStoreModel", "live", "(I)Z"⟩, 39) := ⟨⟨by decide +kernel, by decide +kernel⟩, List.mem_of_getElem? (i := 598) (by rfl), List.mem_of_getElem? (i := 763) (by rfl), List.mem_of_getElem? (i := 764) (by rfl)⟩
set_option maxRecDepth 20000 in
theorem lw_p30 : lw_okq (⟨"NestedStoreModel", "append", "(III)I"⟩, 39) := ⟨⟨by decide +kernel, by decide +kernel⟩, List.mem_of_getElem? (i := 598) (by rfl), List.mem_of_getElem? (i := 767) (by rfl), List.mem_of_getElem? (i := 768) (by rfl)⟩
set_option maxRecDepth 20000 in
theorem lw_p31 : lw_okq (⟨"NestedStoreModel", "last", "()I"⟩, 39) := ⟨⟨by decide +kernel, by decide +kernel⟩, List.mem_of_getElem? (i := 598) (by rfl), List.mem_of_getElem? (i := 771) (by rfl), List.mem_of_getElem? (i := 772) (by rfl)⟩
def lw_privs_2 : List (MethodName × Nat) := [(⟨"NestedStore", "fall", "(LNestedStore$Transaction;)I"⟩, 14), (⟨"NestedStore", "back", "(LNestedStore$Transaction;I)I"⟩, 14), (⟨"NestedStore", "undo", "(LNestedStore$Entry;LNestedStore$Transaction;)V"⟩, 14), (⟨"NestedStore", "redo", "()V"⟩, 14), (⟨"NestedStoreModel", "active", "(I)Z"⟩, 39), (⟨"NestedStoreModel", "is", "(I)Z"⟩, 39), (⟨"NestedStoreModel", "depth", "(I)I"⟩, 39), (⟨"NestedStoreModel", "full", "()Z"⟩, 39), (⟨"NestedStoreModel", "opens", "()I"⟩, 39), (⟨"NestedStoreModel", "open", "(I)Z"⟩, 39), (⟨"NestedStoreModel", "top", "(I)I"⟩, 39), (⟨"NestedStoreModel", "undone", "(I)Z"⟩, 39), (⟨"NestedStoreModel", "lives", "()I"⟩, 39), (⟨"NestedStoreModel", "live", "(I)Z"⟩, 39), (⟨"NestedStoreModel", "append", "(III)I"⟩, 39), (⟨"NestedStoreModel", "last", "()I"⟩, 39)]
theorem lw_r2 : ∀ q ∈ lw_privs_2, lw_okq q := List.forall_mem_cons.mpr ⟨lw_p16, List.forall_mem_cons.mpr ⟨lw_p17, List.forall_mem_cons.mpr ⟨lw_p18, List.forall_mem_cons.mpr ⟨lw_p19, List.forall_mem_cons.mpr ⟨lw_p20, List.forall_mem_cons.mpr ⟨lw_p21, List.forall_mem_cons.mpr ⟨lw_p22, List.forall_mem_cons.mpr ⟨lw_p23, List.forall_mem_cons.mpr ⟨lw_p24, List.forall_mem_cons.mpr ⟨lw_p25, List.forall_mem_cons.mpr ⟨lw_p26, List.forall_mem_cons.mpr ⟨lw_p27, List.forall_mem_cons.mpr ⟨lw_p28, List.forall_mem_cons.mpr ⟨lw_p29, List.forall_mem_cons.mpr ⟨lw_p30, List.forall_mem_cons.mpr ⟨lw_p31, fun _ h => absurd h List.not_mem_nil⟩⟩⟩⟩⟩⟩⟩⟩⟩⟩⟩⟩⟩⟩⟩⟩
set_option maxRecDepth 20000 in
theorem lw_p32 : lw_okq (⟨"NestedStoreModel", "ask", "(IIII)I"⟩, 39) := ⟨⟨by decide +kernel, by decide +kernel⟩, List.mem_of_getElem? (i := 598) (by rfl), List.mem_of_getElem? (i := 782) (by rfl), List.mem_of_getElem? (i := 783) (by rfl)⟩
set_option maxRecDepth 20000 in
theorem lw_p33 : lw_okq (⟨"NestedStoreModel", "busy", "(I)Z"⟩, 39) := ⟨⟨by decide +kernel, by decide +kernel⟩, List.mem_of_getElem? (i := 598) (by rfl), List.mem_of_getElem? (i := 786) (by rfl), List.mem_of_getElem? (i := 787) (by rfl)⟩
set_option maxRecDepth 20000 in
theorem lw_p34 : lw_okq (⟨"NestedStoreModel", "request", "(IIII)I"⟩, 39) := ⟨⟨by decide +kernel, by decide +kernel⟩, List.mem_of_getElem? (i := 598) (by rfl), List.mem_of_getElem? (i := 790) (by rfl), List.mem_of_getElem? (i := 791) (by rfl)⟩
set_option maxRecDepth 20000 in
theorem lw_p35 : lw_okq (⟨"NestedStoreModel", "needs", "(III)V"⟩, 39) := ⟨⟨by decide +kernel, by decide +kernel⟩, List.mem_of_getElem? (i := 598) (by rfl), List.mem_of_getElem? (i := 794) (by rfl), List.mem_of_getElem? (i := 795) (by rfl)⟩
set_option maxRecDepth 20000 in
theorem lw_p36 : lw_okq (⟨"NestedStoreModel", "isThereNow", "(I)Z"⟩, 39) := ⟨⟨by decide +kernel, by decide +kernel⟩, List.mem_of_getElem? (i := 598) (by rfl), List.mem_of_getElem? (i := 798) (by rfl), List.mem_of_getElem? (i := 799) (by rfl)⟩
set_option maxRecDepth 20000 in
theorem lw_p37 : lw_okq (⟨"NestedStoreModel", "want", "(I)V"⟩, 39) := ⟨⟨by decide +kernel, by decide +kernel⟩, List.mem_of_getElem? (i := 598) (by rfl), List.mem_of_getElem? (i := 802) (by rfl), List.mem_of_getElem? (i := 803) (by rfl)⟩
set_option maxRecDepth 20000 in
theorem lw_p38 : lw_okq (⟨"NestedStoreModel", "next", "(I)I"⟩, 39) := ⟨⟨by decide +kernel, by decide +kernel⟩, List.mem_of_getElem? (i := 598) (by rfl), List.mem_of_getElem? (i := 806) (by rfl), List.mem_of_getElem? (i := 807) (by rfl)⟩
set_option maxRecDepth 20000 in
theorem lw_p39 : lw_okq (⟨"NestedStoreModel", "may", "(III)Z"⟩, 39) := ⟨⟨by decide +kernel, by decide +kernel⟩, List.mem_of_getElem? (i := 598) (by rfl), List.mem_of_getElem? (i := 810) (by rfl), List.mem_of_getElem? (i := 811) (by rfl)⟩
set_option maxRecDepth 20000 in
theorem lw_p40 : lw_okq (⟨"NestedStoreModel", "bars", "(IIII)Z"⟩, 39) := ⟨⟨by decide +kernel, by decide +kernel⟩, List.mem_of_getElem? (i := 598) (by rfl), List.mem_of_getElem? (i := 814) (by rfl), List.mem_of_getElem? (i := 815) (by rfl)⟩
set_option maxRecDepth 20000 in
theorem lw_p41 : lw_okq (⟨"NestedStoreModel", "above", "(II)Z"⟩, 39) := ⟨⟨by decide +kernel, by decide +kernel⟩, List.mem_of_getElem? (i := 598) (by rfl), List.mem_of_getElem? (i := 818) (by rfl), List.mem_of_getElem? (i := 819) (by rfl)⟩
set_option maxRecDepth 20000 in
theorem lw_p42 : lw_okq (⟨"NestedStoreModel", "stays", "(IIII)I"⟩, 39) := ⟨⟨by decide +kernel, by decide +kernel⟩, List.mem_of_getElem? (i := 598) (by rfl), List.mem_of_getElem? (i := 822) (by rfl), List.mem_of_getElem? (i := 823) (by rfl)⟩
set_option maxRecDepth 20000 in
theorem lw_p43 : lw_okq (⟨"NestedStoreModel", "victim", "(I)I"⟩, 39) := ⟨⟨by decide +kernel, by decide +kernel⟩, List.mem_of_getElem? (i := 598) (by rfl), List.mem_of_getElem? (i := 826) (by rfl), List.mem_of_getElem? (i := 827) (by rfl)⟩
set_option maxRecDepth 20000 in
theorem lw_p44 : lw_okq (⟨"NestedStoreModel", "look", "()V"⟩, 39) := ⟨⟨by decide +kernel, by decide +kernel⟩, List.mem_of_getElem? (i := 598) (by rfl), List.mem_of_getElem? (i := 830) (by rfl), List.mem_of_getElem? (i := 831) (by rfl)⟩
set_option maxRecDepth 20000 in
theorem lw_p45 : lw_okq (⟨"NestedStoreModel", "leads", "(II)Z"⟩, 39) := ⟨⟨by decide +kernel, by decide +kernel⟩, List.mem_of_getElem? (i := 598) (by rfl), List.mem_of_getElem? (i := 834) (by rfl), List.mem_of_getElem? (i := 835) (by rfl)⟩
set_option maxRecDepth 20000 in
theorem lw_p46 : lw_okq (⟨"NestedStoreModel", "aborts", "(I)I"⟩, 39) := ⟨⟨by decide +kernel, by decide +kernel⟩, List.mem_of_getElem? (i := 598) (by rfl), List.mem_of_getElem? (i := 838) (by rfl), List.mem_of_getElem? (i := 839) (by rfl)⟩
set_option maxRecDepth 20000 in
theorem lw_p47 : lw_okq (⟨"NestedStoreModel", "undoes", "(II)I"⟩, 39) := ⟨⟨by decide +kernel, by decide +kernel⟩, List.mem_of_getElem? (i := 598) (by rfl), List.mem_of_getElem? (i := 842) (by rfl), List.mem_of_getElem? (i := 843) (by rfl)⟩
def lw_privs_3 : List (MethodName × Nat) := [(⟨"NestedStoreModel", "ask", "(IIII)I"⟩, 39), (⟨"NestedStoreModel", "busy", "(I)Z"⟩, 39), (⟨"NestedStoreModel", "request", "(IIII)I"⟩, 39), (⟨"NestedStoreModel", "needs", "(III)V"⟩, 39), (⟨"NestedStoreModel", "isThereNow", "(I)Z"⟩, 39), (⟨"NestedStoreModel", "want", "(I)V"⟩, 39), (⟨"NestedStoreModel", "next", "(I)I"⟩, 39), (⟨"NestedStoreModel", "may", "(III)Z"⟩, 39), (⟨"NestedStoreModel", "bars", "(IIII)Z"⟩, 39), (⟨"NestedStoreModel", "above", "(II)Z"⟩, 39), (⟨"NestedStoreModel", "stays", "(IIII)I"⟩, 39), (⟨"NestedStoreModel", "victim", "(I)I"⟩, 39), (⟨"NestedStoreModel", "look", "()V"⟩, 39), (⟨"NestedStoreModel", "leads", "(II)Z"⟩, 39), (⟨"NestedStoreModel", "aborts", "(I)I"⟩, 39), (⟨"NestedStoreModel", "undoes", "(II)I"⟩, 39)]
theorem lw_r3 : ∀ q ∈ lw_privs_3, lw_okq q := List.forall_mem_cons.mpr ⟨lw_p32, List.forall_mem_cons.mpr ⟨lw_p33, List.forall_mem_cons.mpr ⟨lw_p34, List.forall_mem_cons.mpr ⟨lw_p35, List.forall_mem_cons.mpr ⟨lw_p36, List.forall_mem_cons.mpr ⟨lw_p37, List.forall_mem_cons.mpr ⟨lw_p38, List.forall_mem_cons.mpr ⟨lw_p39, List.forall_mem_cons.mpr ⟨lw_p40, List.forall_mem_cons.mpr ⟨lw_p41, List.forall_mem_cons.mpr ⟨lw_p42, List.forall_mem_cons.mpr ⟨lw_p43, List.forall_mem_cons.mpr ⟨lw_p44, List.forall_mem_cons.mpr ⟨lw_p45, List.forall_mem_cons.mpr ⟨lw_p46, List.forall_mem_cons.mpr ⟨lw_p47, fun _ h => absurd h List.not_mem_nil⟩⟩⟩⟩⟩⟩⟩⟩⟩⟩⟩⟩⟩⟩⟩⟩
set_option maxRecDepth 20000 in
theorem lw_p48 : lw_okq (⟨"NestedStoreModel", "undo", "(II)V"⟩, 39) := ⟨⟨by decide +kernel, by decide +kernel⟩, List.mem_of_getElem? (i := 598) (by rfl), List.mem_of_getElem? (i := 846) (by rfl), List.mem_of_getElem? (i := 847) (by rfl)⟩
set_option maxRecDepth 20000 in
theorem lw_p49 : lw_okq (⟨"NestedStoreModel", "touch", "(I)V"⟩, 39) := ⟨⟨by decide +kernel, by decide +kernel⟩, List.mem_of_getElem? (i := 598) (by rfl), List.mem_of_getElem? (i := 850) (by rfl), List.mem_of_getElem? (i := 851) (by rfl)⟩
set_option maxRecDepth 20000 in
theorem lw_p50 : lw_okq (⟨"NestedStoreModel", "writes", "(I)V"⟩, 39) := ⟨⟨by decide +kernel, by decide +kernel⟩, List.mem_of_getElem? (i := 598) (by rfl), List.mem_of_getElem? (i := 854) (by rfl), List.mem_of_getElem? (i := 855) (by rfl)⟩
set_option maxRecDepth 20000 in
theorem lw_p51 : lw_okq (⟨"NestedStoreModel", "become", "(IZII)V"⟩, 39) := ⟨⟨by decide +kernel, by decide +kernel⟩, List.mem_of_getElem? (i := 598) (by rfl), List.mem_of_getElem? (i := 858) (by rfl), List.mem_of_getElem? (i := 859) (by rfl)⟩
set_option maxRecDepth 20000 in
theorem lw_p52 : lw_okq (⟨"NestedStoreModel", "unlock", "(I)V"⟩, 39) := ⟨⟨by decide +kernel, by decide +kernel⟩, List.mem_of_getElem? (i := 598) (by rfl), List.mem_of_getElem? (i := 862) (by rfl), List.mem_of_getElem? (i := 863) (by rfl)⟩
set_option maxRecDepth 20000 in
theorem lw_p53 : lw_okq (⟨"NestedStoreModel", "valueNow", "(I)I"⟩, 39) := ⟨⟨by decide +kernel, by decide +kernel⟩, List.mem_of_getElem? (i := 598) (by rfl), List.mem_of_getElem? (i := 866) (by rfl), List.mem_of_getElem? (i := 867) (by rfl)⟩
set_option maxRecDepth 20000 in
theorem lw_p54 : lw_okq (⟨"NestedStoreModel", "scanned", "(II)I"⟩, 39) := ⟨⟨by decide +kernel, by decide +kernel⟩, List.mem_of_getElem? (i := 598) (by rfl), List.mem_of_getElem? (i := 870) (by rfl), List.mem_of_getElem? (i := 871) (by rfl)⟩
set_option maxRecDepth 20000 in
theorem lw_p55 : lw_okq (⟨"NestedStoreModel", "update", "(IIZI)V"⟩, 39) := ⟨⟨by decide +kernel, by decide +kernel⟩, List.mem_of_getElem? (i := 598) (by rfl), List.mem_of_getElem? (i := 874) (by rfl), List.mem_of_getElem? (i := 875) (by rfl)⟩
set_option maxRecDepth 20000 in
theorem lw_p56 : lw_okq (⟨"NestedStoreModel", "committed", "(I)Z"⟩, 39) := ⟨⟨by decide +kernel, by decide +kernel⟩, List.mem_of_getElem? (i := 598) (by rfl), List.mem_of_getElem? (i := 930) (by rfl), List.mem_of_getElem? (i := 931) (by rfl)⟩
set_option maxRecDepth 20000 in
theorem lw_p57 : lw_okq (⟨"NestedStoreModel", "lsnNow", "(I)I"⟩, 39) := ⟨⟨by decide +kernel, by decide +kernel⟩, List.mem_of_getElem? (i := 598) (by rfl), List.mem_of_getElem? (i := 970) (by rfl), List.mem_of_getElem? (i := 971) (by rfl)⟩
def lw_privs_4 : List (MethodName × Nat) := [(⟨"NestedStoreModel", "undo", "(II)V"⟩, 39), (⟨"NestedStoreModel", "touch", "(I)V"⟩, 39), (⟨"NestedStoreModel", "writes", "(I)V"⟩, 39), (⟨"NestedStoreModel", "become", "(IZII)V"⟩, 39), (⟨"NestedStoreModel", "unlock", "(I)V"⟩, 39), (⟨"NestedStoreModel", "valueNow", "(I)I"⟩, 39), (⟨"NestedStoreModel", "scanned", "(II)I"⟩, 39), (⟨"NestedStoreModel", "update", "(IIZI)V"⟩, 39), (⟨"NestedStoreModel", "committed", "(I)Z"⟩, 39), (⟨"NestedStoreModel", "lsnNow", "(I)I"⟩, 39)]
theorem lw_r4 : ∀ q ∈ lw_privs_4, lw_okq q := List.forall_mem_cons.mpr ⟨lw_p48, List.forall_mem_cons.mpr ⟨lw_p49, List.forall_mem_cons.mpr ⟨lw_p50, List.forall_mem_cons.mpr ⟨lw_p51, List.forall_mem_cons.mpr ⟨lw_p52, List.forall_mem_cons.mpr ⟨lw_p53, List.forall_mem_cons.mpr ⟨lw_p54, List.forall_mem_cons.mpr ⟨lw_p55, List.forall_mem_cons.mpr ⟨lw_p56, List.forall_mem_cons.mpr ⟨lw_p57, fun _ h => absurd h List.not_mem_nil⟩⟩⟩⟩⟩⟩⟩⟩⟩⟩
def lw_privs : List (MethodName × Nat) := lw_privs_1 ++ (lw_privs_2 ++ (lw_privs_3 ++ (lw_privs_4)))
def lw_tbl : List Cond := k2_sels lw_privs ++ tables_1
theorem lw_privs_ok : ∀ q ∈ lw_privs, lw_okq q := by
  show ∀ q ∈ lw_privs_1 ++ (lw_privs_2 ++ (lw_privs_3 ++ (lw_privs_4))), lw_okq q
  exact List.forall_mem_append.mpr ⟨lw_r1, List.forall_mem_append.mpr ⟨lw_r2, List.forall_mem_append.mpr ⟨lw_r3, lw_r4⟩⟩⟩
def tb_ok (w : Cond) : Bool := (w.onTables && w.keeps) || (match w with | .arrayClass _ => true | _ => false)
/-- the tables' words that a callee may ask of its caller -/
def tbG : List Cond := lw_tbl.filter tb_ok
theorem tb_good : ∀ w ∈ tbG, (w.onTables && w.keeps) = true ∨ ∃ ty, w = .arrayClass ty := by
  intro w hw
  have h := (List.mem_filter.mp hw).2
  unfold tb_ok at h
  rcases Bool.or_eq_true _ _ ▸ h with h | h
  · exact Or.inl h
  · right
    cases w <;> first | exact ⟨_, rfl⟩ | cases h
theorem tb_in (i : Nat) {w : Cond} (h : tables_1[i]? = some w) (h2 : tb_ok w = true) : w ∈ tbG := List.mem_filter.mpr ⟨List.mem_append_right _ (List.mem_of_getElem? h), h2⟩
theorem tb_any (i : Nat) {w : Cond} (h : tables_1[i]? = some w) : w ∈ lw_tbl := List.mem_append_right _ (List.mem_of_getElem? h)
theorem tb_sel (i : Nat) {w : Cond} (h : (k2_sels lw_privs)[i]? = some w) (h2 : tb_ok w = true) : w ∈ tbG := List.mem_filter.mpr ⟨List.mem_append_left _ (List.mem_of_getElem? h), h2⟩
/-- a method's words -/
def wsOf (y : MethodName) (cc : ByteArray) (n : Nat) (rt : Option FieldType) : List Cond := Cond.code y cc n rt :: tbG
theorem wsOf_good {y y' : MethodName} {cc cc' : ByteArray} {n n' : Nat} {rt rt' : Option FieldType} (h : Cond.code y' cc' n' rt' ∈ tbG) : GoodIn (wsOf y cc n rt) (wsOf y' cc' n' rt') := by
  intro w hw
  rcases List.mem_cons.mp hw with rfl | hw
  · exact ⟨List.mem_cons_of_mem _ h, tb_good _ h⟩
  · exact ⟨List.mem_cons_of_mem _ hw, tb_good _ hw⟩
theorem tbl_good {y' : MethodName} {cc' : ByteArray} {n' : Nat} {rt' : Option FieldType} (h : Cond.code y' cc' n' rt' ∈ tbG) : GoodIn tbG (wsOf y' cc' n' rt') := by
  intro w hw
  rcases List.mem_cons.mp hw with rfl | hw
  · exact ⟨h, tb_good _ h⟩
  · exact ⟨hw, tb_good _ hw⟩
abbrev b_S_init : ByteArray := prog_1_method_1_code
def y_S_init : MethodName := ⟨"NestedStore", "<init>", "(I)V"⟩
set_option maxRecDepth 20000 in
theorem k_S_init : Cond.code y_S_init b_S_init 3 none ∈ tbG := tb_in 22 (by rfl) rfl
abbrev b_S_outside : ByteArray := prog_1_method_2_code
def y_S_outside : MethodName := ⟨"NestedStore", "outside", "(III)Z"⟩
set_option maxRecDepth 20000 in
theorem k_S_outside : Cond.code y_S_outside b_S_outside 3 (some .boolean) ∈ tbG := tb_in 118 (by rfl) rfl
abbrev b_S_find : ByteArray := prog_1_method_3_code
def y_S_find : MethodName := ⟨"NestedStore", "find", "(I)LNestedStore$Transaction;"⟩
set_option maxRecDepth 20000 in
theorem k_S_find : Cond.code y_S_find b_S_find 2 (some (.object "NestedStore$Transaction")) ∈ tbG := tb_in 115 (by rfl) rfl
abbrev b_S_place : ByteArray := prog_1_method_4_code
def y_S_place : MethodName := ⟨"NestedStore", "place", "(I)I"⟩
set_option maxRecDepth 20000 in
theorem k_S_place : Cond.code y_S_place b_S_place 3 (some .int) ∈ tbG := tb_in 297 (by rfl) rfl
abbrev b_S_at : ByteArray := prog_1_method_5_code
def y_S_at : MethodName := ⟨"NestedStore", "at", "(I)LNestedStore$Page;"⟩
set_option maxRecDepth 20000 in
theorem k_S_at : Cond.code y_S_at b_S_at 2 (some (.object "NestedStore$Page")) ∈ tbG := tb_in 293 (by rfl) rfl
abbrev b_S_there : ByteArray := prog_1_method_6_code
def y_S_there : MethodName := ⟨"NestedStore", "there", "(I)Z"⟩
set_option maxRecDepth 20000 in
theorem k_S_there : Cond.code y_S_there b_S_there 2 (some .boolean) ∈ tbG := tb_in 289 (by rfl) rfl
abbrev b_S_next : ByteArray := prog_1_method_7_code
def y_S_next : MethodName := ⟨"NestedStore", "next", "(I)I"⟩
set_option maxRecDepth 20000 in
theorem k_S_next : Cond.code y_S_next b_S_next 3 (some .int) ∈ tbG := tb_in 305 (by rfl) rfl
abbrev b_S_bring : ByteArray := prog_1_method_8_code
def y_S_bring : MethodName := ⟨"NestedStore", "bring", "(LNestedStore$Page;)V"⟩
set_option maxRecDepth 20000 in
theorem k_S_bring : Cond.code y_S_bring b_S_bring 2 none ∈ tbG := tb_in 362 (by rfl) rfl
abbrev b_S_touch : ByteArray := prog_1_method_9_code
def y_S_touch : MethodName := ⟨"NestedStore", "touch", "(I)LNestedStore$Page;"⟩
set_option maxRecDepth 20000 in
theorem k_S_touch : Cond.code y_S_touch b_S_touch 4 (some (.object "NestedStore$Page")) ∈ tbG := tb_in 358 (by rfl) rfl
abbrev b_S_note : ByteArray := prog_1_method_10_code
def y_S_note : MethodName := ⟨"NestedStore", "note", "(LNestedStore$Kind;LNestedStore$Transaction;I)LNestedStore$Entry;"⟩
set_option maxRecDepth 20000 in
theorem k_S_note : Cond.code y_S_note b_S_note 5 (some (.object "NestedStore$Entry")) ∈ tbG := tb_in 183 (by rfl) rfl
abbrev b_S_last : ByteArray := prog_1_method_11_code
def y_S_last : MethodName := ⟨"NestedStore", "last", "()I"⟩
set_option maxRecDepth 20000 in
theorem k_S_last : Cond.code y_S_last b_S_last 1 (some .int) ∈ tbG := tb_in 129 (by rfl) rfl
abbrev b_S_lacks : ByteArray := prog_1_method_12_code
def y_S_lacks : MethodName := ⟨"NestedStore", "lacks", "(I)Z"⟩
set_option maxRecDepth 20000 in
theorem k_S_lacks : Cond.code y_S_lacks b_S_lacks 2 (some .boolean) ∈ tbG := tb_in 124 (by rfl) rfl
abbrev b_S_update : ByteArray := prog_1_method_13_code
def y_S_update : MethodName := ⟨"NestedStore", "update", "(LNestedStore$Transaction;IZI)Z"⟩
set_option maxRecDepth 20000 in
theorem k_S_update : Cond.code y_S_update b_S_update 7 (some .boolean) ∈ tbG := tb_in 354 (by rfl) rfl
abbrev b_S_undo : ByteArray := prog_1_method_14_code
def y_S_undo : MethodName := ⟨"NestedStore", "undo", "(LNestedStore$Entry;LNestedStore$Transaction;)V"⟩
set_option maxRecDepth 20000 in
theorem k_S_undo : Cond.code y_S_undo b_S_undo 5 none ∈ tbG := tb_in 440 (by rfl) rfl
abbrev b_S_back : ByteArray := prog_1_method_15_code
def y_S_back : MethodName := ⟨"NestedStore", "back", "(LNestedStore$Transaction;I)I"⟩
set_option maxRecDepth 20000 in
theorem k_S_back : Cond.code y_S_back b_S_back 5 (some .int) ∈ tbG := tb_in 432 (by rfl) rfl
abbrev b_S_seek : ByteArray := prog_1_method_16_code
def y_S_seek : MethodName := ⟨"NestedStore", "seek", "(LNestedStore$Transaction;IIZ)J"⟩
set_option maxRecDepth 20000 in
theorem k_S_seek : Cond.code y_S_seek b_S_seek 9 (some .long) ∈ tbG := tb_in 310 (by rfl) rfl
abbrev b_S_leads : ByteArray := prog_1_method_17_code
def y_S_leads : MethodName := ⟨"NestedStore", "leads", "(LNestedStore$Transaction;)J"⟩
set_option maxRecDepth 20000 in
theorem k_S_leads : Cond.code y_S_leads b_S_leads 4 (some .long) ∈ tbG := tb_in 415 (by rfl) rfl
abbrev b_S_reach : ByteArray := prog_1_method_18_code
def y_S_reach : MethodName := ⟨"NestedStore", "reach", "(LNestedStore$Transaction;)J"⟩
set_option maxRecDepth 20000 in
theorem k_S_reach : Cond.code y_S_reach b_S_reach 8 (some .long) ∈ tbG := tb_in 411 (by rfl) rfl
abbrev b_S_circles : ByteArray := prog_1_method_19_code
def y_S_circles : MethodName := ⟨"NestedStore", "circles", "(LNestedStore$Transaction;)V"⟩
set_option maxRecDepth 20000 in
theorem k_S_circles : Cond.code y_S_circles b_S_circles 8 none ∈ tbG := tb_in 407 (by rfl) rfl
abbrev b_S_fall : ByteArray := prog_1_method_20_code
def y_S_fall : MethodName := ⟨"NestedStore", "fall", "(LNestedStore$Transaction;)I"⟩
set_option maxRecDepth 20000 in
theorem k_S_fall : Cond.code y_S_fall b_S_fall 5 (some .int) ∈ tbG := tb_in 428 (by rfl) rfl
abbrev b_S_begin : ByteArray := prog_1_method_21_code
def y_S_begin : MethodName := ⟨"NestedStore", "begin", "(I)I"⟩
set_option maxRecDepth 20000 in
theorem k_S_begin : Cond.code y_S_begin b_S_begin 4 (some .int) ∈ tbG := tb_in 111 (by rfl) rfl
abbrev b_S_bar : ByteArray := prog_1_method_22_code
def y_S_bar : MethodName := ⟨"NestedStore", "bar", "(LNestedStore$Transaction;)I"⟩
set_option maxRecDepth 20000 in
theorem k_S_bar : Cond.code y_S_bar b_S_bar 1 (some .int) ∈ tbG := tb_in 247 (by rfl) rfl
abbrev b_S_make : ByteArray := prog_1_method_23_code
def y_S_make : MethodName := ⟨"NestedStore", "make", "(LNestedStore$Transaction;LNestedStore$Request;)I"⟩
set_option maxRecDepth 20000 in
theorem k_S_make : Cond.code y_S_make b_S_make 3 (some .int) ∈ tbG := tb_in 275 (by rfl) rfl
abbrev b_S_get : ByteArray := prog_1_method_24_code
def y_S_get : MethodName := ⟨"NestedStore", "get", "(II)I"⟩
set_option maxRecDepth 20000 in
theorem k_S_get : Cond.code y_S_get b_S_get 5 (some .int) ∈ tbG := tb_in 244 (by rfl) rfl
abbrev b_S_put : ByteArray := prog_1_method_25_code
def y_S_put : MethodName := ⟨"NestedStore", "put", "(III)I"⟩
set_option maxRecDepth 20000 in
theorem k_S_put : Cond.code y_S_put b_S_put 6 (some .int) ∈ tbG := tb_in 454 (by rfl) rfl
abbrev b_S_delete : ByteArray := prog_1_method_26_code
def y_S_delete : MethodName := ⟨"NestedStore", "delete", "(II)I"⟩
set_option maxRecDepth 20000 in
theorem k_S_delete : Cond.code y_S_delete b_S_delete 5 (some .int) ∈ tbG := tb_in 471 (by rfl) rfl
abbrev b_S_scan : ByteArray := prog_1_method_27_code
def y_S_scan : MethodName := ⟨"NestedStore", "scan", "(III)I"⟩
set_option maxRecDepth 20000 in
theorem k_S_scan : Cond.code y_S_scan b_S_scan 6 (some .int) ∈ tbG := tb_in 485 (by rfl) rfl
abbrev b_S_resume : ByteArray := prog_1_method_28_code
def y_S_resume : MethodName := ⟨"NestedStore", "resume", "(I)I"⟩
set_option maxRecDepth 20000 in
theorem k_S_resume : Cond.code y_S_resume b_S_resume 3 (some .int) ∈ tbG := tb_in 502 (by rfl) rfl
abbrev b_S_value : ByteArray := prog_1_method_29_code
def y_S_value : MethodName := ⟨"NestedStore", "value", "()I"⟩
set_option maxRecDepth 20000 in
theorem k_S_value : Cond.code y_S_value b_S_value 1 (some .int) ∈ tbG := tb_in 506 (by rfl) rfl
abbrev b_S_commit : ByteArray := prog_1_method_30_code
def y_S_commit : MethodName := ⟨"NestedStore", "commit", "(I)I"⟩
set_option maxRecDepth 20000 in
theorem k_S_commit : Cond.code y_S_commit b_S_commit 5 (some .int) ∈ tbG := tb_in 510 (by rfl) rfl
abbrev b_S_abort : ByteArray := prog_1_method_31_code
def y_S_abort : MethodName := ⟨"NestedStore", "abort", "(I)I"⟩
set_option maxRecDepth 20000 in
theorem k_S_abort : Cond.code y_S_abort b_S_abort 3 (some .int) ∈ tbG := tb_in 523 (by rfl) rfl
abbrev b_S_save : ByteArray := prog_1_method_32_code
def y_S_save : MethodName := ⟨"NestedStore", "save", "(I)I"⟩
set_option maxRecDepth 20000 in
theorem k_S_save : Cond.code y_S_save b_S_save 3 (some .int) ∈ tbG := tb_in 527 (by rfl) rfl
abbrev b_S_rollback : ByteArray := prog_1_method_33_code
def y_S_rollback : MethodName := ⟨"NestedStore", "rollback", "(II)I"⟩
set_option maxRecDepth 20000 in
theorem k_S_rollback : Cond.code y_S_rollback b_S_rollback 5 (some .int) ∈ tbG := tb_in 531 (by rfl) rfl
abbrev b_S_write : ByteArray := prog_1_method_34_code
def y_S_write : MethodName := ⟨"NestedStore", "write", "(I)Z"⟩
set_option maxRecDepth 20000 in
theorem k_S_write : Cond.code y_S_write b_S_write 2 (some .boolean) ∈ tbG := tb_in 535 (by rfl) rfl
abbrev b_S_archive : ByteArray := prog_1_method_35_code
def y_S_archive : MethodName := ⟨"NestedStore", "archive", "()I"⟩
set_option maxRecDepth 20000 in
theorem k_S_archive : Cond.code y_S_archive b_S_archive 3 (some .int) ∈ tbG := tb_in 539 (by rfl) rfl
abbrev b_S_crash : ByteArray := prog_1_method_36_code
def y_S_crash : MethodName := ⟨"NestedStore", "crash", "(I)I"⟩
set_option maxRecDepth 20000 in
theorem k_S_crash : Cond.code y_S_crash b_S_crash 5 (some .int) ∈ tbG := tb_in 544 (by rfl) rfl
abbrev b_S_redo : ByteArray := prog_1_method_37_code
def y_S_redo : MethodName := ⟨"NestedStore", "redo", "()V"⟩
set_option maxRecDepth 20000 in
theorem k_S_redo : Cond.code y_S_redo b_S_redo 4 none ∈ tbG := tb_in 548 (by rfl) rfl
abbrev b_S_state : ByteArray := prog_1_method_38_code
def y_S_state : MethodName := ⟨"NestedStore", "state", "(I)I"⟩
set_option maxRecDepth 20000 in
theorem k_S_state : Cond.code y_S_state b_S_state 3 (some .int) ∈ tbG := tb_in 552 (by rfl) rfl
abbrev b_S_parent : ByteArray := prog_1_method_39_code
def y_S_parent : MethodName := ⟨"NestedStore", "parent", "(I)I"⟩
set_option maxRecDepth 20000 in
theorem k_S_parent : Cond.code y_S_parent b_S_parent 3 (some .int) ∈ tbG := tb_in 562 (by rfl) rfl
abbrev b_S_lock : ByteArray := prog_1_method_40_code
def y_S_lock : MethodName := ⟨"NestedStore", "lock", "(II)I"⟩
set_option maxRecDepth 20000 in
theorem k_S_lock : Cond.code y_S_lock b_S_lock 4 (some .int) ∈ tbG := tb_in 566 (by rfl) rfl
abbrev b_S_waits : ByteArray := prog_1_method_41_code
def y_S_waits : MethodName := ⟨"NestedStore", "waits", "(II)Z"⟩
set_option maxRecDepth 20000 in
theorem k_S_waits : Cond.code y_S_waits b_S_waits 4 (some .boolean) ∈ tbG := tb_in 570 (by rfl) rfl
abbrev b_S_entry : ByteArray := prog_1_method_42_code
def y_S_entry : MethodName := ⟨"NestedStore", "entry", "(II)I"⟩
set_option maxRecDepth 20000 in
theorem k_S_entry : Cond.code y_S_entry b_S_entry 5 (some .int) ∈ tbG := tb_in 574 (by rfl) rfl
abbrev b_S_log : ByteArray := prog_1_method_43_code
def y_S_log : MethodName := ⟨"NestedStore", "log", "(I)I"⟩
set_option maxRecDepth 20000 in
theorem k_S_log : Cond.code y_S_log b_S_log 2 (some .int) ∈ tbG := tb_in 581 (by rfl) rfl
abbrev b_S_key : ByteArray := prog_1_method_44_code
def y_S_key : MethodName := ⟨"NestedStore", "key", "(II)I"⟩
set_option maxRecDepth 20000 in
theorem k_S_key : Cond.code y_S_key b_S_key 3 (some .int) ∈ tbG := tb_in 585 (by rfl) rfl
abbrev b_S_frame : ByteArray := prog_1_method_45_code
def y_S_frame : MethodName := ⟨"NestedStore", "frame", "(I)I"⟩
set_option maxRecDepth 20000 in
theorem k_S_frame : Cond.code y_S_frame b_S_frame 3 (some .int) ∈ tbG := tb_in 589 (by rfl) rfl
abbrev b_S_page : ByteArray := prog_1_method_46_code
def y_S_page : MethodName := ⟨"NestedStore", "page", "(I)I"⟩
set_option maxRecDepth 20000 in
theorem k_S_page : Cond.code y_S_page b_S_page 2 (some .int) ∈ tbG := tb_in 593 (by rfl) rfl
abbrev b_M_init : ByteArray := prog_13_method_1_code
def y_M_init : MethodName := ⟨"NestedStoreModel", "<init>", "(I)V"⟩
set_option maxRecDepth 20000 in
theorem k_M_init : Cond.code y_M_init b_M_init 2 none ∈ tbG := tb_in 601 (by rfl) rfl
abbrev b_M_isKey : ByteArray := prog_13_method_2_code
def y_M_isKey : MethodName := ⟨"NestedStoreModel", "isKey", "(I)Z"⟩
set_option maxRecDepth 20000 in
theorem k_M_isKey : Cond.code y_M_isKey b_M_isKey 1 (some .boolean) ∈ tbG := tb_in 780 (by rfl) rfl
abbrev b_M_isPage : ByteArray := prog_13_method_3_code
def y_M_isPage : MethodName := ⟨"NestedStoreModel", "isPage", "(I)Z"⟩
set_option maxRecDepth 20000 in
theorem k_M_isPage : Cond.code y_M_isPage b_M_isPage 1 (some .boolean) ∈ tbG := tb_in 919 (by rfl) rfl
abbrev b_M_isThereNow : ByteArray := prog_13_method_4_code
def y_M_isThereNow : MethodName := ⟨"NestedStoreModel", "isThereNow", "(I)Z"⟩
set_option maxRecDepth 20000 in
theorem k_M_isThereNow : Cond.code y_M_isThereNow b_M_isThereNow 2 (some .boolean) ∈ tbG := tb_in 800 (by rfl) rfl
abbrev b_M_valueNow : ByteArray := prog_13_method_5_code
def y_M_valueNow : MethodName := ⟨"NestedStoreModel", "valueNow", "(I)I"⟩
set_option maxRecDepth 20000 in
theorem k_M_valueNow : Cond.code y_M_valueNow b_M_valueNow 2 (some .int) ∈ tbG := tb_in 868 (by rfl) rfl
abbrev b_M_lsnNow : ByteArray := prog_13_method_6_code
def y_M_lsnNow : MethodName := ⟨"NestedStoreModel", "lsnNow", "(I)I"⟩
set_option maxRecDepth 20000 in
theorem k_M_lsnNow : Cond.code y_M_lsnNow b_M_lsnNow 2 (some .int) ∈ tbG := tb_in 972 (by rfl) rfl
abbrev b_M_writes : ByteArray := prog_13_method_7_code
def y_M_writes : MethodName := ⟨"NestedStoreModel", "writes", "(I)V"⟩
set_option maxRecDepth 20000 in
theorem k_M_writes : Cond.code y_M_writes b_M_writes 3 none ∈ tbG := tb_in 856 (by rfl) rfl
abbrev b_M_touch : ByteArray := prog_13_method_8_code
def y_M_touch : MethodName := ⟨"NestedStoreModel", "touch", "(I)V"⟩
set_option maxRecDepth 20000 in
theorem k_M_touch : Cond.code y_M_touch b_M_touch 5 none ∈ tbG := tb_in 852 (by rfl) rfl
abbrev b_M_become : ByteArray := prog_13_method_9_code
def y_M_become : MethodName := ⟨"NestedStoreModel", "become", "(IZII)V"⟩
set_option maxRecDepth 20000 in
theorem k_M_become : Cond.code y_M_become b_M_become 5 none ∈ tbG := tb_in 860 (by rfl) rfl
abbrev b_M_last : ByteArray := prog_13_method_10_code
def y_M_last : MethodName := ⟨"NestedStoreModel", "last", "()I"⟩
set_option maxRecDepth 20000 in
theorem k_M_last : Cond.code y_M_last b_M_last 1 (some .int) ∈ tbG := tb_in 773 (by rfl) rfl
abbrev b_M_append : ByteArray := prog_13_method_11_code
def y_M_append : MethodName := ⟨"NestedStoreModel", "append", "(III)I"⟩
set_option maxRecDepth 20000 in
theorem k_M_append : Cond.code y_M_append b_M_append 5 (some .int) ∈ tbG := tb_in 769 (by rfl) rfl
abbrev b_M_update : ByteArray := prog_13_method_12_code
def y_M_update : MethodName := ⟨"NestedStoreModel", "update", "(IIZI)V"⟩
set_option maxRecDepth 20000 in
theorem k_M_update : Cond.code y_M_update b_M_update 6 none ∈ tbG := tb_in 876 (by rfl) rfl
abbrev b_M_undo : ByteArray := prog_13_method_13_code
def y_M_undo : MethodName := ⟨"NestedStoreModel", "undo", "(II)V"⟩
set_option maxRecDepth 20000 in
theorem k_M_undo : Cond.code y_M_undo b_M_undo 4 none ∈ tbG := tb_in 848 (by rfl) rfl
abbrev b_M_undone : ByteArray := prog_13_method_14_code
def y_M_undone : MethodName := ⟨"NestedStoreModel", "undone", "(I)Z"⟩
set_option maxRecDepth 20000 in
theorem k_M_undone : Cond.code y_M_undone b_M_undone 4 (some .boolean) ∈ tbG := tb_in 757 (by rfl) rfl
abbrev b_M_top : ByteArray := prog_13_method_15_code
def y_M_top : MethodName := ⟨"NestedStoreModel", "top", "(I)I"⟩
set_option maxRecDepth 20000 in
theorem k_M_top : Cond.code y_M_top b_M_top 4 (some .int) ∈ tbG := tb_in 753 (by rfl) rfl
abbrev b_M_open : ByteArray := prog_13_method_16_code
def y_M_open : MethodName := ⟨"NestedStoreModel", "open", "(I)Z"⟩
set_option maxRecDepth 20000 in
theorem k_M_open : Cond.code y_M_open b_M_open 2 (some .boolean) ∈ tbG := tb_in 749 (by rfl) rfl
abbrev b_M_opens : ByteArray := prog_13_method_17_code
def y_M_opens : MethodName := ⟨"NestedStoreModel", "opens", "()I"⟩
set_option maxRecDepth 20000 in
theorem k_M_opens : Cond.code y_M_opens b_M_opens 3 (some .int) ∈ tbG := tb_in 745 (by rfl) rfl
abbrev b_M_live : ByteArray := prog_13_method_18_code
def y_M_live : MethodName := ⟨"NestedStoreModel", "live", "(I)Z"⟩
set_option maxRecDepth 20000 in
theorem k_M_live : Cond.code y_M_live b_M_live 2 (some .boolean) ∈ tbG := tb_in 765 (by rfl) rfl
abbrev b_M_lives : ByteArray := prog_13_method_19_code
def y_M_lives : MethodName := ⟨"NestedStoreModel", "lives", "()I"⟩
set_option maxRecDepth 20000 in
theorem k_M_lives : Cond.code y_M_lives b_M_lives 3 (some .int) ∈ tbG := tb_in 761 (by rfl) rfl
abbrev b_M_full : ByteArray := prog_13_method_20_code
def y_M_full : MethodName := ⟨"NestedStoreModel", "full", "()Z"⟩
set_option maxRecDepth 20000 in
theorem k_M_full : Cond.code y_M_full b_M_full 1 (some .boolean) ∈ tbG := tb_in 741 (by rfl) rfl
abbrev b_M_is : ByteArray := prog_13_method_21_code
def y_M_is : MethodName := ⟨"NestedStoreModel", "is", "(I)Z"⟩
set_option maxRecDepth 20000 in
theorem k_M_is : Cond.code y_M_is b_M_is 2 (some .boolean) ∈ tbG := tb_in 733 (by rfl) rfl
abbrev b_M_active : ByteArray := prog_13_method_22_code
def y_M_active : MethodName := ⟨"NestedStoreModel", "active", "(I)Z"⟩
set_option maxRecDepth 20000 in
theorem k_M_active : Cond.code y_M_active b_M_active 2 (some .boolean) ∈ tbG := tb_in 729 (by rfl) rfl
abbrev b_M_above : ByteArray := prog_13_method_23_code
def y_M_above : MethodName := ⟨"NestedStoreModel", "above", "(II)Z"⟩
set_option maxRecDepth 20000 in
theorem k_M_above : Cond.code y_M_above b_M_above 6 (some .boolean) ∈ tbG := tb_in 820 (by rfl) rfl
abbrev b_M_busy : ByteArray := prog_13_method_24_code
def y_M_busy : MethodName := ⟨"NestedStoreModel", "busy", "(I)Z"⟩
set_option maxRecDepth 20000 in
theorem k_M_busy : Cond.code y_M_busy b_M_busy 4 (some .boolean) ∈ tbG := tb_in 788 (by rfl) rfl
abbrev b_M_depth : ByteArray := prog_13_method_25_code
def y_M_depth : MethodName := ⟨"NestedStoreModel", "depth", "(I)I"⟩
set_option maxRecDepth 20000 in
theorem k_M_depth : Cond.code y_M_depth b_M_depth 5 (some .int) ∈ tbG := tb_in 737 (by rfl) rfl
abbrev b_M_begin : ByteArray := prog_13_method_26_code
def y_M_begin : MethodName := ⟨"NestedStoreModel", "begin", "(I)I"⟩
set_option maxRecDepth 20000 in
theorem k_M_begin : Cond.code y_M_begin b_M_begin 3 (some .int) ∈ tbG := tb_in 725 (by rfl) rfl
abbrev b_M_next : ByteArray := prog_13_method_27_code
def y_M_next : MethodName := ⟨"NestedStoreModel", "next", "(I)I"⟩
set_option maxRecDepth 20000 in
theorem k_M_next : Cond.code y_M_next b_M_next 3 (some .int) ∈ tbG := tb_in 808 (by rfl) rfl
abbrev b_M_want : ByteArray := prog_13_method_28_code
def y_M_want : MethodName := ⟨"NestedStoreModel", "want", "(I)V"⟩
set_option maxRecDepth 20000 in
theorem k_M_want : Cond.code y_M_want b_M_want 2 none ∈ tbG := tb_in 804 (by rfl) rfl
abbrev b_M_needs : ByteArray := prog_13_method_29_code
def y_M_needs : MethodName := ⟨"NestedStoreModel", "needs", "(III)V"⟩
set_option maxRecDepth 20000 in
theorem k_M_needs : Cond.code y_M_needs b_M_needs 6 none ∈ tbG := tb_in 796 (by rfl) rfl
abbrev b_M_bars : ByteArray := prog_13_method_30_code
def y_M_bars : MethodName := ⟨"NestedStoreModel", "bars", "(IIII)Z"⟩
set_option maxRecDepth 20000 in
theorem k_M_bars : Cond.code y_M_bars b_M_bars 6 (some .boolean) ∈ tbG := tb_in 816 (by rfl) rfl
abbrev b_M_may : ByteArray := prog_13_method_31_code
def y_M_may : MethodName := ⟨"NestedStoreModel", "may", "(III)Z"⟩
set_option maxRecDepth 20000 in
theorem k_M_may : Cond.code y_M_may b_M_may 6 (some .boolean) ∈ tbG := tb_in 812 (by rfl) rfl
abbrev b_M_look : ByteArray := prog_13_method_32_code
def y_M_look : MethodName := ⟨"NestedStoreModel", "look", "()V"⟩
set_option maxRecDepth 20000 in
theorem k_M_look : Cond.code y_M_look b_M_look 4 none ∈ tbG := tb_in 832 (by rfl) rfl
abbrev b_M_leads : ByteArray := prog_13_method_33_code
def y_M_leads : MethodName := ⟨"NestedStoreModel", "leads", "(II)Z"⟩
set_option maxRecDepth 20000 in
theorem k_M_leads : Cond.code y_M_leads b_M_leads 3 (some .boolean) ∈ tbG := tb_in 836 (by rfl) rfl
abbrev b_M_victim : ByteArray := prog_13_method_34_code
def y_M_victim : MethodName := ⟨"NestedStoreModel", "victim", "(I)I"⟩
set_option maxRecDepth 20000 in
theorem k_M_victim : Cond.code y_M_victim b_M_victim 8 (some .int) ∈ tbG := tb_in 828 (by rfl) rfl
abbrev b_M_request : ByteArray := prog_13_method_35_code
def y_M_request : MethodName := ⟨"NestedStoreModel", "request", "(IIII)I"⟩
set_option maxRecDepth 20000 in
theorem k_M_request : Cond.code y_M_request b_M_request 7 (some .int) ∈ tbG := tb_in 792 (by rfl) rfl
abbrev b_M_scanned : ByteArray := prog_13_method_36_code
def y_M_scanned : MethodName := ⟨"NestedStoreModel", "scanned", "(II)I"⟩
set_option maxRecDepth 20000 in
theorem k_M_scanned : Cond.code y_M_scanned b_M_scanned 5 (some .int) ∈ tbG := tb_in 872 (by rfl) rfl
abbrev b_M_stays : ByteArray := prog_13_method_37_code
def y_M_stays : MethodName := ⟨"NestedStoreModel", "stays", "(IIII)I"⟩
set_option maxRecDepth 20000 in
theorem k_M_stays : Cond.code y_M_stays b_M_stays 7 (some .int) ∈ tbG := tb_in 824 (by rfl) rfl
abbrev b_M_ask : ByteArray := prog_13_method_38_code
def y_M_ask : MethodName := ⟨"NestedStoreModel", "ask", "(IIII)I"⟩
set_option maxRecDepth 20000 in
theorem k_M_ask : Cond.code y_M_ask b_M_ask 5 (some .int) ∈ tbG := tb_in 784 (by rfl) rfl
abbrev b_M_get : ByteArray := prog_13_method_39_code
def y_M_get : MethodName := ⟨"NestedStoreModel", "get", "(II)I"⟩
set_option maxRecDepth 20000 in
theorem k_M_get : Cond.code y_M_get b_M_get 3 (some .int) ∈ tbG := tb_in 777 (by rfl) rfl
abbrev b_M_put : ByteArray := prog_13_method_40_code
def y_M_put : MethodName := ⟨"NestedStoreModel", "put", "(III)I"⟩
set_option maxRecDepth 20000 in
theorem k_M_put : Cond.code y_M_put b_M_put 4 (some .int) ∈ tbG := tb_in 880 (by rfl) rfl
abbrev b_M_delete : ByteArray := prog_13_method_41_code
def y_M_delete : MethodName := ⟨"NestedStoreModel", "delete", "(II)I"⟩
set_option maxRecDepth 20000 in
theorem k_M_delete : Cond.code y_M_delete b_M_delete 3 (some .int) ∈ tbG := tb_in 884 (by rfl) rfl
abbrev b_M_scan : ByteArray := prog_13_method_42_code
def y_M_scan : MethodName := ⟨"NestedStoreModel", "scan", "(III)I"⟩
set_option maxRecDepth 20000 in
theorem k_M_scan : Cond.code y_M_scan b_M_scan 4 (some .int) ∈ tbG := tb_in 888 (by rfl) rfl
abbrev b_M_resume : ByteArray := prog_13_method_43_code
def y_M_resume : MethodName := ⟨"NestedStoreModel", "resume", "(I)I"⟩
set_option maxRecDepth 20000 in
theorem k_M_resume : Cond.code y_M_resume b_M_resume 2 (some .int) ∈ tbG := tb_in 892 (by rfl) rfl
abbrev b_M_value : ByteArray := prog_13_method_44_code
def y_M_value : MethodName := ⟨"NestedStoreModel", "value", "()I"⟩
set_option maxRecDepth 20000 in
theorem k_M_value : Cond.code y_M_value b_M_value 1 (some .int) ∈ tbG := tb_in 896 (by rfl) rfl
abbrev b_M_unlock : ByteArray := prog_13_method_45_code
def y_M_unlock : MethodName := ⟨"NestedStoreModel", "unlock", "(I)V"⟩
set_option maxRecDepth 20000 in
theorem k_M_unlock : Cond.code y_M_unlock b_M_unlock 3 none ∈ tbG := tb_in 864 (by rfl) rfl
abbrev b_M_commit : ByteArray := prog_13_method_46_code
def y_M_commit : MethodName := ⟨"NestedStoreModel", "commit", "(I)I"⟩
set_option maxRecDepth 20000 in
theorem k_M_commit : Cond.code y_M_commit b_M_commit 6 (some .int) ∈ tbG := tb_in 900 (by rfl) rfl
abbrev b_M_undoes : ByteArray := prog_13_method_47_code
def y_M_undoes : MethodName := ⟨"NestedStoreModel", "undoes", "(II)I"⟩
set_option maxRecDepth 20000 in
theorem k_M_undoes : Cond.code y_M_undoes b_M_undoes 5 (some .int) ∈ tbG := tb_in 844 (by rfl) rfl
abbrev b_M_aborts : ByteArray := prog_13_method_48_code
def y_M_aborts : MethodName := ⟨"NestedStoreModel", "aborts", "(I)I"⟩
set_option maxRecDepth 20000 in
theorem k_M_aborts : Cond.code y_M_aborts b_M_aborts 5 (some .int) ∈ tbG := tb_in 840 (by rfl) rfl
abbrev b_M_abort : ByteArray := prog_13_method_49_code
def y_M_abort : MethodName := ⟨"NestedStoreModel", "abort", "(I)I"⟩
set_option maxRecDepth 20000 in
theorem k_M_abort : Cond.code y_M_abort b_M_abort 2 (some .int) ∈ tbG := tb_in 904 (by rfl) rfl
abbrev b_M_save : ByteArray := prog_13_method_50_code
def y_M_save : MethodName := ⟨"NestedStoreModel", "save", "(I)I"⟩
set_option maxRecDepth 20000 in
theorem k_M_save : Cond.code y_M_save b_M_save 2 (some .int) ∈ tbG := tb_in 908 (by rfl) rfl
abbrev b_M_rollback : ByteArray := prog_13_method_51_code
def y_M_rollback : MethodName := ⟨"NestedStoreModel", "rollback", "(II)I"⟩
set_option maxRecDepth 20000 in
theorem k_M_rollback : Cond.code y_M_rollback b_M_rollback 3 (some .int) ∈ tbG := tb_in 912 (by rfl) rfl
abbrev b_M_write : ByteArray := prog_13_method_52_code
def y_M_write : MethodName := ⟨"NestedStoreModel", "write", "(I)Z"⟩
set_option maxRecDepth 20000 in
theorem k_M_write : Cond.code y_M_write b_M_write 2 (some .boolean) ∈ tbG := tb_in 916 (by rfl) rfl
abbrev b_M_archive : ByteArray := prog_13_method_53_code
def y_M_archive : MethodName := ⟨"NestedStoreModel", "archive", "()I"⟩
set_option maxRecDepth 20000 in
theorem k_M_archive : Cond.code y_M_archive b_M_archive 3 (some .int) ∈ tbG := tb_in 923 (by rfl) rfl
abbrev b_M_committed : ByteArray := prog_13_method_54_code
def y_M_committed : MethodName := ⟨"NestedStoreModel", "committed", "(I)Z"⟩
set_option maxRecDepth 20000 in
theorem k_M_committed : Cond.code y_M_committed b_M_committed 4 (some .boolean) ∈ tbG := tb_in 932 (by rfl) rfl
abbrev b_M_crash : ByteArray := prog_13_method_55_code
def y_M_crash : MethodName := ⟨"NestedStoreModel", "crash", "(I)I"⟩
set_option maxRecDepth 20000 in
theorem k_M_crash : Cond.code y_M_crash b_M_crash 5 (some .int) ∈ tbG := tb_in 928 (by rfl) rfl
abbrev b_M_state : ByteArray := prog_13_method_56_code
def y_M_state : MethodName := ⟨"NestedStoreModel", "state", "(I)I"⟩
set_option maxRecDepth 20000 in
theorem k_M_state : Cond.code y_M_state b_M_state 2 (some .int) ∈ tbG := tb_in 936 (by rfl) rfl
abbrev b_M_parent : ByteArray := prog_13_method_57_code
def y_M_parent : MethodName := ⟨"NestedStoreModel", "parent", "(I)I"⟩
set_option maxRecDepth 20000 in
theorem k_M_parent : Cond.code y_M_parent b_M_parent 2 (some .int) ∈ tbG := tb_in 940 (by rfl) rfl
abbrev b_M_lock : ByteArray := prog_13_method_58_code
def y_M_lock : MethodName := ⟨"NestedStoreModel", "lock", "(II)I"⟩
set_option maxRecDepth 20000 in
theorem k_M_lock : Cond.code y_M_lock b_M_lock 3 (some .int) ∈ tbG := tb_in 944 (by rfl) rfl
abbrev b_M_waits : ByteArray := prog_13_method_59_code
def y_M_waits : MethodName := ⟨"NestedStoreModel", "waits", "(II)Z"⟩
set_option maxRecDepth 20000 in
theorem k_M_waits : Cond.code y_M_waits b_M_waits 3 (some .boolean) ∈ tbG := tb_in 948 (by rfl) rfl
abbrev b_M_entry : ByteArray := prog_13_method_60_code
def y_M_entry : MethodName := ⟨"NestedStoreModel", "entry", "(II)I"⟩
set_option maxRecDepth 20000 in
theorem k_M_entry : Cond.code y_M_entry b_M_entry 4 (some .int) ∈ tbG := tb_in 952 (by rfl) rfl
abbrev b_M_log : ByteArray := prog_13_method_61_code
def y_M_log : MethodName := ⟨"NestedStoreModel", "log", "(I)I"⟩
set_option maxRecDepth 20000 in
theorem k_M_log : Cond.code y_M_log b_M_log 2 (some .int) ∈ tbG := tb_in 956 (by rfl) rfl
abbrev b_M_key : ByteArray := prog_13_method_62_code
def y_M_key : MethodName := ⟨"NestedStoreModel", "key", "(II)I"⟩
set_option maxRecDepth 20000 in
theorem k_M_key : Cond.code y_M_key b_M_key 3 (some .int) ∈ tbG := tb_in 960 (by rfl) rfl
abbrev b_M_frame : ByteArray := prog_13_method_63_code
def y_M_frame : MethodName := ⟨"NestedStoreModel", "frame", "(I)I"⟩
set_option maxRecDepth 20000 in
theorem k_M_frame : Cond.code y_M_frame b_M_frame 5 (some .int) ∈ tbG := tb_in 964 (by rfl) rfl
abbrev b_M_page : ByteArray := prog_13_method_64_code
def y_M_page : MethodName := ⟨"NestedStoreModel", "page", "(I)I"⟩
set_option maxRecDepth 20000 in
theorem k_M_page : Cond.code y_M_page b_M_page 2 (some .int) ∈ tbG := tb_in 968 (by rfl) rfl
abbrev b_RD_init : ByteArray := prog_2_method_1_code
def y_RD_init : MethodName := ⟨"NestedStore$Delete", "<init>", "(I)V"⟩
set_option maxRecDepth 20000 in
theorem k_RD_init : Cond.code y_RD_init b_RD_init 2 none ∈ tbG := tb_in 476 (by rfl) rfl
abbrev b_RD_ask : ByteArray := prog_2_method_2_code
def y_RD_ask : MethodName := ⟨"NestedStore$Delete", "ask", "(LNestedStore;LNestedStore$Transaction;Z)J"⟩
set_option maxRecDepth 20000 in
theorem k_RD_ask : Cond.code y_RD_ask b_RD_ask 6 (some .long) ∈ tbG := tb_in 285 (by rfl) rfl
abbrev b_RD_act : ByteArray := prog_2_method_3_code
def y_RD_act : MethodName := ⟨"NestedStore$Delete", "act", "(LNestedStore;LNestedStore$Transaction;)I"⟩
set_option maxRecDepth 20000 in
theorem k_RD_act : Cond.code y_RD_act b_RD_act 3 (some .int) ∈ tbG := tb_in 350 (by rfl) rfl
abbrev b_E_init : ByteArray := prog_3_method_1_code
def y_E_init : MethodName := ⟨"NestedStore$Entry", "<init>", "()V"⟩
set_option maxRecDepth 20000 in
theorem k_E_init : Cond.code y_E_init b_E_init 1 none ∈ tbG := tb_in 187 (by rfl) rfl
abbrev b_E_set : ByteArray := prog_3_method_2_code
def y_E_set : MethodName := ⟨"NestedStore$Entry", "set", "(ILNestedStore$Kind;LNestedStore$Transaction;I)V"⟩
set_option maxRecDepth 20000 in
theorem k_E_set : Cond.code y_E_set b_E_set 5 none ∈ tbG := tb_in 240 (by rfl) rfl
abbrev b_RG_init : ByteArray := prog_4_method_1_code
def y_RG_init : MethodName := ⟨"NestedStore$Get", "<init>", "(I)V"⟩
set_option maxRecDepth 20000 in
theorem k_RG_init : Cond.code y_RG_init b_RG_init 2 none ∈ tbG := tb_in 263 (by rfl) rfl
abbrev b_RG_ask : ByteArray := prog_4_method_2_code
def y_RG_ask : MethodName := ⟨"NestedStore$Get", "ask", "(LNestedStore;LNestedStore$Transaction;Z)J"⟩
set_option maxRecDepth 20000 in
theorem k_RG_ask : Cond.code y_RG_ask b_RG_ask 4 (some .long) ∈ tbG := tb_in 320 (by rfl) rfl
abbrev b_RG_act : ByteArray := prog_4_method_3_code
def y_RG_act : MethodName := ⟨"NestedStore$Get", "act", "(LNestedStore;LNestedStore$Transaction;)I"⟩
set_option maxRecDepth 20000 in
theorem k_RG_act : Cond.code y_RG_act b_RG_act 3 (some .int) ∈ tbG := tb_in 385 (by rfl) rfl
abbrev b_P_init : ByteArray := prog_6_method_1_code
def y_P_init : MethodName := ⟨"NestedStore$Page", "<init>", "(I)V"⟩
set_option maxRecDepth 20000 in
theorem k_P_init : Cond.code y_P_init b_P_init 2 none ∈ tbG := tb_in 41 (by rfl) rfl
abbrev b_P_copy : ByteArray := prog_6_method_2_code
def y_P_copy : MethodName := ⟨"NestedStore$Page", "copy", "(LNestedStore$Page;)V"⟩
set_option maxRecDepth 20000 in
theorem k_P_copy : Cond.code y_P_copy b_P_copy 2 none ∈ tbG := tb_in 366 (by rfl) rfl
abbrev b_P_has : ByteArray := prog_6_method_3_code
def y_P_has : MethodName := ⟨"NestedStore$Page", "has", "(I)Z"⟩
set_option maxRecDepth 20000 in
theorem k_P_has : Cond.code y_P_has b_P_has 2 (some .boolean) ∈ tbG := tb_in 301 (by rfl) rfl
abbrev b_P_value : ByteArray := prog_6_method_4_code
def y_P_value : MethodName := ⟨"NestedStore$Page", "value", "(I)I"⟩
set_option maxRecDepth 20000 in
theorem k_P_value : Cond.code y_P_value b_P_value 2 (some .int) ∈ tbG := tb_in 375 (by rfl) rfl
abbrev b_P_set : ByteArray := prog_6_method_5_code
def y_P_set : MethodName := ⟨"NestedStore$Page", "set", "(IZII)V"⟩
set_option maxRecDepth 20000 in
theorem k_P_set : Cond.code y_P_set b_P_set 6 none ∈ tbG := tb_in 380 (by rfl) rfl
abbrev b_RP_init : ByteArray := prog_7_method_1_code
def y_RP_init : MethodName := ⟨"NestedStore$Put", "<init>", "(II)V"⟩
set_option maxRecDepth 20000 in
theorem k_RP_init : Cond.code y_RP_init b_RP_init 3 none ∈ tbG := tb_in 459 (by rfl) rfl
abbrev b_RP_ask : ByteArray := prog_7_method_2_code
def y_RP_ask : MethodName := ⟨"NestedStore$Put", "ask", "(LNestedStore;LNestedStore$Transaction;Z)J"⟩
set_option maxRecDepth 20000 in
theorem k_RP_ask : Cond.code y_RP_ask b_RP_ask 6 (some .long) ∈ tbG := tb_in 329 (by rfl) rfl
abbrev b_RP_act : ByteArray := prog_7_method_3_code
def y_RP_act : MethodName := ⟨"NestedStore$Put", "act", "(LNestedStore;LNestedStore$Transaction;)I"⟩
set_option maxRecDepth 20000 in
theorem k_RP_act : Cond.code y_RP_act b_RP_act 3 (some .int) ∈ tbG := tb_in 393 (by rfl) rfl
abbrev b_RS_init : ByteArray := prog_9_method_1_code
def y_RS_init : MethodName := ⟨"NestedStore$Scan", "<init>", "(II)V"⟩
set_option maxRecDepth 20000 in
theorem k_RS_init : Cond.code y_RS_init b_RS_init 3 none ∈ tbG := tb_in 490 (by rfl) rfl
abbrev b_RS_ask : ByteArray := prog_9_method_2_code
def y_RS_ask : MethodName := ⟨"NestedStore$Scan", "ask", "(LNestedStore;LNestedStore$Transaction;Z)J"⟩
set_option maxRecDepth 20000 in
theorem k_RS_ask : Cond.code y_RS_ask b_RS_ask 7 (some .long) ∈ tbG := tb_in 338 (by rfl) rfl
abbrev b_RS_act : ByteArray := prog_9_method_3_code
def y_RS_act : MethodName := ⟨"NestedStore$Scan", "act", "(LNestedStore;LNestedStore$Transaction;)I"⟩
set_option maxRecDepth 20000 in
theorem k_RS_act : Cond.code y_RS_act b_RS_act 6 (some .int) ∈ tbG := tb_in 399 (by rfl) rfl
abbrev b_Q_live : ByteArray := prog_10_method_4_code
def y_Q_live : MethodName := ⟨"NestedStore$State", "live", "()Z"⟩
set_option maxRecDepth 20000 in
theorem k_Q_live : Cond.code y_Q_live b_Q_live 1 (some .boolean) ∈ tbG := tb_in 255 (by rfl) rfl
abbrev b_T_init : ByteArray := prog_11_method_1_code
def y_T_init : MethodName := ⟨"NestedStore$Transaction", "<init>", "(ILNestedStore$Transaction;I)V"⟩
set_option maxRecDepth 20000 in
theorem k_T_init : Cond.code y_T_init b_T_init 4 none ∈ tbG := tb_in 132 (by rfl) rfl
abbrev b_T_under : ByteArray := prog_11_method_2_code
def y_T_under : MethodName := ⟨"NestedStore$Transaction", "under", "(LNestedStore$Transaction;)Z"⟩
set_option maxRecDepth 20000 in
theorem k_T_under : Cond.code y_T_under b_T_under 3 (some .boolean) ∈ tbG := tb_in 314 (by rfl) rfl
abbrev b_T_liveChildren : ByteArray := prog_11_method_3_code
def y_T_liveChildren : MethodName := ⟨"NestedStore$Transaction", "liveChildren", "()J"⟩
set_option maxRecDepth 20000 in
theorem k_T_liveChildren : Cond.code y_T_liveChildren b_T_liveChildren 4 (some .long) ∈ tbG := tb_in 251 (by rfl) rfl
abbrev b_T_latest : ByteArray := prog_11_method_4_code
def y_T_latest : MethodName := ⟨"NestedStore$Transaction", "latest", "(LNestedStore$Transaction;I)LNestedStore$Entry;"⟩
set_option maxRecDepth 20000 in
theorem k_T_latest : Cond.code y_T_latest b_T_latest 5 (some (.object "NestedStore$Entry")) ∈ tbG := tb_in 435 (by rfl) rfl
abbrev b_T_unlock : ByteArray := prog_11_method_5_code
def y_T_unlock : MethodName := ⟨"NestedStore$Transaction", "unlock", "()V"⟩
set_option maxRecDepth 20000 in
theorem k_T_unlock : Cond.code y_T_unlock b_T_unlock 2 none ∈ tbG := tb_in 450 (by rfl) rfl
abbrev b_T_inherit : ByteArray := prog_11_method_6_code
def y_T_inherit : MethodName := ⟨"NestedStore$Transaction", "inherit", "(LNestedStore$Transaction;)V"⟩
set_option maxRecDepth 20000 in
theorem k_T_inherit : Cond.code y_T_inherit b_T_inherit 3 none ∈ tbG := tb_in 518 (by rfl) rfl
abbrev b_W_cell : ByteArray := method_2_code
def y_W_cell : MethodName := ⟨"NestedStoreLaw", "cell", "([II)I"⟩
set_option maxRecDepth 20000 in
theorem k_W_cell : Cond.code y_W_cell b_W_cell 2 (some .int) ∈ tbG := tb_in 596 (by rfl) rfl
abbrev b_L_ntz : ByteArray := prog_16_method_49_code
def y_L_ntz : MethodName := ⟨"java/lang/Long", "numberOfTrailingZeros", "(J)I"⟩
set_option maxRecDepth 20000 in
theorem k_L_ntz : Cond.code y_L_ntz b_L_ntz 3 (some .int) ∈ tbG := tb_in 420 (by rfl) rfl
abbrev b_I_ntz : ByteArray := prog_15_method_48_code
def y_I_ntz : MethodName := ⟨"java/lang/Integer", "numberOfTrailingZeros", "(I)I"⟩
set_option maxRecDepth 20000 in
theorem k_I_ntz : Cond.code y_I_ntz b_I_ntz 2 (some .int) ∈ tbG := tb_in 423 (by rfl) rfl
abbrev b_En_ordinal : ByteArray := prog_14_method_2_code
def y_En_ordinal : MethodName := ⟨"java/lang/Enum", "ordinal", "()I"⟩
set_option maxRecDepth 20000 in
theorem k_En_ordinal : Cond.code y_En_ordinal b_En_ordinal 1 (some .int) ∈ tbG := tb_in 558 (by rfl) rfl
