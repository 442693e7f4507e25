-- ===== PART A: goes FIRST, ahead of the names: the tables' words, and 'selects' of the private methods out of them =====
/-- a private method of a class that the tables say can be made, by its rows of tables_1 -/
def lw_okq (q : MethodName × Nat) : Prop := (q.1.cls ≠ "java/lang/invoke/MethodHandle" ∧ q.1.cls ≠ "java/lang/invoke/VarHandle") ∧ Cond.instantiable q.1.cls q.2 ∈ tables_1 ∧ Cond.privateMethod q.1 ∈ tables_1 ∧ Cond.instanceMethod q.1 ∈ tables_1
set_option maxRecDepth 100000
theorem lw_t1 {w : Cond} (h : w ∈ tables_1_1) : w ∈ tables_1 := List.mem_append_left _ h
theorem lw_t2 {w : Cond} (h : w ∈ tables_1_2) : w ∈ tables_1 := List.mem_append_right _ (List.mem_append_left _ h)
theorem lw_t3 {w : Cond} (h : w ∈ tables_1_3) : w ∈ tables_1 := List.mem_append_right _ (List.mem_append_right _ (List.mem_append_left _ h))
theorem lw_t4 {w : Cond} (h : w ∈ tables_1_4) : w ∈ tables_1 := List.mem_append_right _ (List.mem_append_right _ (List.mem_append_right _ (List.mem_append_left _ h)))
theorem lw_t5 {w : Cond} (h : w ∈ tables_1_5) : w ∈ tables_1 := List.mem_append_right _ (List.mem_append_right _ (List.mem_append_right _ (List.mem_append_right _ (List.mem_append_left _ h))))
theorem lw_t6 {w : Cond} (h : w ∈ tables_1_6) : w ∈ tables_1 := List.mem_append_right _ (List.mem_append_right _ (List.mem_append_right _ (List.mem_append_right _ (List.mem_append_right _ (List.mem_append_left _ h)))))
theorem lw_t7 {w : Cond} (h : w ∈ tables_1_7) : w ∈ tables_1 := List.mem_append_right _ (List.mem_append_right _ (List.mem_append_right _ (List.mem_append_right _ (List.mem_append_right _ (List.mem_append_right _ h)))))
theorem lw_p0 : lw_okq (⟨"java/lang/Throwable", "fillInStackTrace", "(I)Ljava/lang/Throwable;"⟩, 6) := ⟨⟨by decide +kernel, by decide +kernel⟩, lw_t1 (List.mem_of_getElem? (i := 175) rfl), lw_t1 (List.mem_of_getElem? (i := 173) rfl), lw_t1 (List.mem_of_getElem? (i := 174) rfl)⟩
theorem lw_p1 : lw_okq (⟨"RumourBeds", "finds", "(LRumourBeds$Finding;)I"⟩, 9) := ⟨⟨by decide +kernel, by decide +kernel⟩, lw_t1 (List.mem_of_getElem? (i := 24) rfl), lw_t1 (List.mem_of_getElem? (i := 208) rfl), lw_t1 (List.mem_of_getElem? (i := 209) rfl)⟩
theorem lw_p2 : lw_okq (⟨"RumourBeds", "eventsIn", "(I)I"⟩, 9) := ⟨⟨by decide +kernel, by decide +kernel⟩, lw_t1 (List.mem_of_getElem? (i := 24) rfl), lw_t1 (List.mem_of_getElem? (i := 231) rfl), lw_t1 (List.mem_of_getElem? (i := 232) rfl)⟩
theorem lw_p3 : lw_okq (⟨"RumourBeds$Town", "pooled", "(II)LRumourBeds$Rumour;"⟩, 8) := ⟨⟨by decide +kernel, by decide +kernel⟩, lw_t1 (List.mem_of_getElem? (i := 32) rfl), lw_t2 (List.mem_of_getElem? (i := 43) rfl), lw_t2 (List.mem_of_getElem? (i := 44) rfl)⟩
theorem lw_p4 : lw_okq (⟨"RumourBeds", "rumourAt", "(I)LRumourBeds$Rumour;"⟩, 9) := ⟨⟨by decide +kernel, by decide +kernel⟩, lw_t1 (List.mem_of_getElem? (i := 24) rfl), lw_t2 (List.mem_of_getElem? (i := 107) rfl), lw_t2 (List.mem_of_getElem? (i := 108) rfl)⟩
theorem lw_p5 : lw_okq (⟨"RumourBeds", "lodger", "(I)LRumourBeds$Rumour;"⟩, 9) := ⟨⟨by decide +kernel, by decide +kernel⟩, lw_t1 (List.mem_of_getElem? (i := 24) rfl), lw_t3 (List.mem_of_getElem? (i := 39) rfl), lw_t3 (List.mem_of_getElem? (i := 40) rfl)⟩
theorem lw_p6 : lw_okq (⟨"RumourBeds$Town", "lodges", "(LRumourBeds$Rumour;)V"⟩, 8) := ⟨⟨by decide +kernel, by decide +kernel⟩, lw_t1 (List.mem_of_getElem? (i := 32) rfl), lw_t3 (List.mem_of_getElem? (i := 86) rfl), lw_t3 (List.mem_of_getElem? (i := 87) rfl)⟩
theorem lw_p7 : lw_okq (⟨"RumourBeds$Town", "third", "(I)V"⟩, 8) := ⟨⟨by decide +kernel, by decide +kernel⟩, lw_t1 (List.mem_of_getElem? (i := 32) rfl), lw_t3 (List.mem_of_getElem? (i := 93) rfl), lw_t3 (List.mem_of_getElem? (i := 94) rfl)⟩
theorem lw_p8 : lw_okq (⟨"RumourBeds$Town", "ofEvent", "(II)I"⟩, 8) := ⟨⟨by decide +kernel, by decide +kernel⟩, lw_t1 (List.mem_of_getElem? (i := 32) rfl), lw_t3 (List.mem_of_getElem? (i := 97) rfl), lw_t3 (List.mem_of_getElem? (i := 98) rfl)⟩
theorem lw_p9 : lw_okq (⟨"RumourBeds$Town", "half", "(I)I"⟩, 8) := ⟨⟨by decide +kernel, by decide +kernel⟩, lw_t1 (List.mem_of_getElem? (i := 32) rfl), lw_t3 (List.mem_of_getElem? (i := 101) rfl), lw_t3 (List.mem_of_getElem? (i := 102) rfl)⟩
theorem lw_p10 : lw_okq (⟨"RumourBeds", "bulks", "()I"⟩, 9) := ⟨⟨by decide +kernel, by decide +kernel⟩, lw_t1 (List.mem_of_getElem? (i := 24) rfl), lw_t3 (List.mem_of_getElem? (i := 116) rfl), lw_t3 (List.mem_of_getElem? (i := 117) rfl)⟩
theorem lw_p11 : lw_okq (⟨"RumourBeds", "freeBeds", "()I"⟩, 9) := ⟨⟨by decide +kernel, by decide +kernel⟩, lw_t1 (List.mem_of_getElem? (i := 24) rfl), lw_t3 (List.mem_of_getElem? (i := 124) rfl), lw_t3 (List.mem_of_getElem? (i := 125) rfl)⟩
theorem lw_p12 : lw_okq (⟨"RumourBeds", "allEaten", "()I"⟩, 9) := ⟨⟨by decide +kernel, by decide +kernel⟩, lw_t1 (List.mem_of_getElem? (i := 24) rfl), lw_t3 (List.mem_of_getElem? (i := 130) rfl), lw_t3 (List.mem_of_getElem? (i := 131) rfl)⟩
theorem lw_p13 : lw_okq (⟨"RumourBeds", "tried", "()LRumourBeds$Town;"⟩, 9) := ⟨⟨by decide +kernel, by decide +kernel⟩, lw_t1 (List.mem_of_getElem? (i := 24) rfl), lw_t3 (List.mem_of_getElem? (i := 141) rfl), lw_t3 (List.mem_of_getElem? (i := 142) rfl)⟩
theorem lw_p14 : lw_okq (⟨"RumourBeds$Reader", "next", "()V"⟩, 6) := ⟨⟨by decide +kernel, by decide +kernel⟩, lw_t3 (List.mem_of_getElem? (i := 222) rfl), lw_t4 (List.mem_of_getElem? (i := 11) rfl), lw_t4 (List.mem_of_getElem? (i := 12) rfl)⟩
theorem lw_p15 : lw_okq (⟨"RumourBeds$Reader", "isAt", "(III)Z"⟩, 6) := ⟨⟨by decide +kernel, by decide +kernel⟩, lw_t3 (List.mem_of_getElem? (i := 222) rfl), lw_t4 (List.mem_of_getElem? (i := 15) rfl), lw_t4 (List.mem_of_getElem? (i := 16) rfl)⟩
def lw_privs_1 : List (MethodName × Nat) := [(⟨"java/lang/Throwable", "fillInStackTrace", "(I)Ljava/lang/Throwable;"⟩, 6), (⟨"RumourBeds", "finds", "(LRumourBeds$Finding;)I"⟩, 9), (⟨"RumourBeds", "eventsIn", "(I)I"⟩, 9), (⟨"RumourBeds$Town", "pooled", "(II)LRumourBeds$Rumour;"⟩, 8), (⟨"RumourBeds", "rumourAt", "(I)LRumourBeds$Rumour;"⟩, 9), (⟨"RumourBeds", "lodger", "(I)LRumourBeds$Rumour;"⟩, 9), (⟨"RumourBeds$Town", "lodges", "(LRumourBeds$Rumour;)V"⟩, 8), (⟨"RumourBeds$Town", "third", "(I)V"⟩, 8), (⟨"RumourBeds$Town", "ofEvent", "(II)I"⟩, 8), (⟨"RumourBeds$Town", "half", "(I)I"⟩, 8), (⟨"RumourBeds", "bulks", "()I"⟩, 9), (⟨"RumourBeds", "freeBeds", "()I"⟩, 9), (⟨"RumourBeds", "allEaten", "()I"⟩, 9), (⟨"RumourBeds", "tried", "()LRumourBeds$Town;"⟩, 9), (⟨"RumourBeds$Reader", "next", "()V"⟩, 6), (⟨"RumourBeds$Reader", "isAt", "(III)Z"⟩, 6)]
theorem lw_r1 : ∀ q ∈ lw_privs_1, lw_okq q := List.forall_mem_cons.mpr ⟨lw_p0, List.forall_mem_cons.mpr ⟨lw_p1, List.forall_mem_cons.mpr ⟨lw_p2, List.forall_mem_cons.mpr ⟨lw_p3, List.forall_mem_cons.mpr ⟨lw_p4, List.forall_mem_cons.mpr ⟨lw_p5, List.forall_mem_cons.mpr ⟨lw_p6, List.forall_mem_cons.mpr ⟨lw_p7, List.forall_mem_cons.mpr ⟨lw_p8, List.forall_mem_cons.mpr ⟨lw_p9, List.forall_mem_cons.mpr ⟨lw_p10, List.forall_mem_cons.mpr ⟨lw_p11, List.forall_mem_cons.mpr ⟨lw_p12, List.forall_mem_cons.mpr ⟨lw_p13, List.forall_mem_cons.mpr ⟨lw_p14, List.forall_mem_cons.mpr ⟨lw_p15, fun _ h => absurd h List.not_mem_nil⟩⟩⟩⟩⟩⟩⟩⟩⟩⟩⟩⟩⟩⟩⟩⟩
theorem lw_p16 : lw_okq (⟨"RumourBeds$Reader", "item", "()V"⟩, 6) := ⟨⟨by decide +kernel, by decide +kernel⟩, lw_t3 (List.mem_of_getElem? (i := 222) rfl), lw_t4 (List.mem_of_getElem? (i := 20) rfl), lw_t4 (List.mem_of_getElem? (i := 21) rfl)⟩
theorem lw_p17 : lw_okq (⟨"RumourBeds$Reader", "kindHere", "()I"⟩, 6) := ⟨⟨by decide +kernel, by decide +kernel⟩, lw_t3 (List.mem_of_getElem? (i := 222) rfl), lw_t4 (List.mem_of_getElem? (i := 24) rfl), lw_t4 (List.mem_of_getElem? (i := 25) rfl)⟩
theorem lw_p18 : lw_okq (⟨"RumourBeds$Reader", "isWord", "(Ljava/lang/String;)Z"⟩, 6) := ⟨⟨by decide +kernel, by decide +kernel⟩, lw_t3 (List.mem_of_getElem? (i := 222) rfl), lw_t4 (List.mem_of_getElem? (i := 29) rfl), lw_t4 (List.mem_of_getElem? (i := 30) rfl)⟩
theorem lw_p19 : lw_okq (⟨"RumourBeds$Reader", "rumour", "(I)V"⟩, 6) := ⟨⟨by decide +kernel, by decide +kernel⟩, lw_t3 (List.mem_of_getElem? (i := 222) rfl), lw_t4 (List.mem_of_getElem? (i := 86) rfl), lw_t4 (List.mem_of_getElem? (i := 87) rfl)⟩
theorem lw_p20 : lw_okq (⟨"RumourBeds$Reader", "must", "(Z)V"⟩, 6) := ⟨⟨by decide +kernel, by decide +kernel⟩, lw_t3 (List.mem_of_getElem? (i := 222) rfl), lw_t4 (List.mem_of_getElem? (i := 90) rfl), lw_t4 (List.mem_of_getElem? (i := 91) rfl)⟩
theorem lw_p21 : lw_okq (⟨"RumourBeds$Reader", "wants", "(Ljava/lang/String;)V"⟩, 6) := ⟨⟨by decide +kernel, by decide +kernel⟩, lw_t3 (List.mem_of_getElem? (i := 222) rfl), lw_t4 (List.mem_of_getElem? (i := 114) rfl), lw_t4 (List.mem_of_getElem? (i := 115) rfl)⟩
theorem lw_p22 : lw_okq (⟨"RumourBeds$Reader", "event", "()I"⟩, 6) := ⟨⟨by decide +kernel, by decide +kernel⟩, lw_t3 (List.mem_of_getElem? (i := 222) rfl), lw_t4 (List.mem_of_getElem? (i := 118) rfl), lw_t4 (List.mem_of_getElem? (i := 119) rfl)⟩
theorem lw_p23 : lw_okq (⟨"RumourBeds$Reader", "number", "(II)I"⟩, 6) := ⟨⟨by decide +kernel, by decide +kernel⟩, lw_t3 (List.mem_of_getElem? (i := 222) rfl), lw_t4 (List.mem_of_getElem? (i := 122) rfl), lw_t4 (List.mem_of_getElem? (i := 123) rfl)⟩
theorem lw_p24 : lw_okq (⟨"RumourBeds$Reader", "numberHere", "()I"⟩, 6) := ⟨⟨by decide +kernel, by decide +kernel⟩, lw_t3 (List.mem_of_getElem? (i := 222) rfl), lw_t4 (List.mem_of_getElem? (i := 126) rfl), lw_t4 (List.mem_of_getElem? (i := 127) rfl)⟩
theorem lw_p25 : lw_okq (⟨"RumourBeds$Reader", "takes", "(Ljava/lang/String;)Z"⟩, 6) := ⟨⟨by decide +kernel, by decide +kernel⟩, lw_t3 (List.mem_of_getElem? (i := 222) rfl), lw_t4 (List.mem_of_getElem? (i := 132) rfl), lw_t4 (List.mem_of_getElem? (i := 133) rfl)⟩
theorem lw_p26 : lw_okq (⟨"RumourBeds$Reader", "bed", "()I"⟩, 6) := ⟨⟨by decide +kernel, by decide +kernel⟩, lw_t3 (List.mem_of_getElem? (i := 222) rfl), lw_t4 (List.mem_of_getElem? (i := 137) rfl), lw_t4 (List.mem_of_getElem? (i := 138) rfl)⟩
theorem lw_p27 : lw_okq (⟨"RumourBeds$Reader", "house", "()V"⟩, 6) := ⟨⟨by decide +kernel, by decide +kernel⟩, lw_t3 (List.mem_of_getElem? (i := 222) rfl), lw_t4 (List.mem_of_getElem? (i := 144) rfl), lw_t4 (List.mem_of_getElem? (i := 145) rfl)⟩
theorem lw_p28 : lw_okq (⟨"RumourBeds", "there", "(I)Ljava/lang/Object;"⟩, 9) := ⟨⟨by decide +kernel, by decide +kernel⟩, lw_t1 (List.mem_of_getElem? (i := 24) rfl), lw_t4 (List.mem_of_getElem? (i := 160) rfl), lw_t4 (List.mem_of_getElem? (i := 161) rfl)⟩
theorem lw_p29 : lw_okq (⟨"RumourBeds", "isJust", "(Ljava/lang/Object;I)Z"⟩, 9) := ⟨⟨by decide +kernel, by decide +kernel⟩, lw_t1 (List.mem_of_getElem? (i := 24) rfl), lw_t4 (List.mem_of_getElem? (i := 184) rfl), lw_t4 (List.mem_of_getElem? (i := 185) rfl)⟩
theorem lw_p30 : lw_okq (⟨"RumourBeds", "numberAt", "(II)Ljava/lang/Object;"⟩, 9) := ⟨⟨by decide +kernel, by decide +kernel⟩, lw_t1 (List.mem_of_getElem? (i := 24) rfl), lw_t4 (List.mem_of_getElem? (i := 201) rfl), lw_t4 (List.mem_of_getElem? (i := 202) rfl)⟩
theorem lw_p31 : lw_okq (⟨"RumourBeds", "allBeds", "()I"⟩, 9) := ⟨⟨by decide +kernel, by decide +kernel⟩, lw_t1 (List.mem_of_getElem? (i := 24) rfl), lw_t4 (List.mem_of_getElem? (i := 229) rfl), lw_t4 (List.mem_of_getElem? (i := 230) rfl)⟩
def lw_privs_2 : List (MethodName × Nat) := [(⟨"RumourBeds$Reader", "item", "()V"⟩, 6), (⟨"RumourBeds$Reader", "kindHere", "()I"⟩, 6), (⟨"RumourBeds$Reader", "isWord", "(Ljava/lang/String;)Z"⟩, 6), (⟨"RumourBeds$Reader", "rumour", "(I)V"⟩, 6), (⟨"RumourBeds$Reader", "must", "(Z)V"⟩, 6), (⟨"RumourBeds$Reader", "wants", "(Ljava/lang/String;)V"⟩, 6), (⟨"RumourBeds$Reader", "event", "()I"⟩, 6), (⟨"RumourBeds$Reader", "number", "(II)I"⟩, 6), (⟨"RumourBeds$Reader", "numberHere", "()I"⟩, 6), (⟨"RumourBeds$Reader", "takes", "(Ljava/lang/String;)Z"⟩, 6), (⟨"RumourBeds$Reader", "bed", "()I"⟩, 6), (⟨"RumourBeds$Reader", "house", "()V"⟩, 6), (⟨"RumourBeds", "there", "(I)Ljava/lang/Object;"⟩, 9), (⟨"RumourBeds", "isJust", "(Ljava/lang/Object;I)Z"⟩, 9), (⟨"RumourBeds", "numberAt", "(II)Ljava/lang/Object;"⟩, 9), (⟨"RumourBeds", "allBeds", "()I"⟩, 9)]
theorem lw_r2 : ∀ q ∈ lw_privs_2, lw_okq q := List.forall_mem_cons.mpr ⟨lw_p16, List.forall_mem_cons.mpr ⟨lw_p17, List.forall_mem_cons.mpr ⟨lw_p18, List.forall_mem_cons.mpr ⟨lw_p19, List.forall_mem_cons.mpr ⟨lw_p20, List.forall_mem_cons.mpr ⟨lw_p21, List.forall_mem_cons.mpr ⟨lw_p22, List.forall_mem_cons.mpr ⟨lw_p23, List.forall_mem_cons.mpr ⟨lw_p24, List.forall_mem_cons.mpr ⟨lw_p25, List.forall_mem_cons.mpr ⟨lw_p26, List.forall_mem_cons.mpr ⟨lw_p27, List.forall_mem_cons.mpr ⟨lw_p28, List.forall_mem_cons.mpr ⟨lw_p29, List.forall_mem_cons.mpr ⟨lw_p30, List.forall_mem_cons.mpr ⟨lw_p31, fun _ h => absurd h List.not_mem_nil⟩⟩⟩⟩⟩⟩⟩⟩⟩⟩⟩⟩⟩⟩⟩⟩
theorem lw_p32 : lw_okq (⟨"RumourBedsModel", "becomes", "(II)I"⟩, 16) := ⟨⟨by decide +kernel, by decide +kernel⟩, lw_t4 (List.mem_of_getElem? (i := 238) rfl), lw_t5 (List.mem_of_getElem? (i := 71) rfl), lw_t5 (List.mem_of_getElem? (i := 72) rfl)⟩
theorem lw_p33 : lw_okq (⟨"RumourBedsModel", "finds", "(I)I"⟩, 16) := ⟨⟨by decide +kernel, by decide +kernel⟩, lw_t4 (List.mem_of_getElem? (i := 238) rfl), lw_t5 (List.mem_of_getElem? (i := 76) rfl), lw_t5 (List.mem_of_getElem? (i := 77) rfl)⟩
theorem lw_p34 : lw_okq (⟨"RumourBedsModel", "has", "(II)I"⟩, 16) := ⟨⟨by decide +kernel, by decide +kernel⟩, lw_t4 (List.mem_of_getElem? (i := 238) rfl), lw_t5 (List.mem_of_getElem? (i := 85) rfl), lw_t5 (List.mem_of_getElem? (i := 86) rfl)⟩
theorem lw_p35 : lw_okq (⟨"RumourBedsModel", "thoseAt", "(I)I"⟩, 16) := ⟨⟨by decide +kernel, by decide +kernel⟩, lw_t4 (List.mem_of_getElem? (i := 238) rfl), lw_t5 (List.mem_of_getElem? (i := 89) rfl), lw_t5 (List.mem_of_getElem? (i := 90) rfl)⟩
theorem lw_p36 : lw_okq (⟨"RumourBedsModel", "its", "(II)I"⟩, 16) := ⟨⟨by decide +kernel, by decide +kernel⟩, lw_t4 (List.mem_of_getElem? (i := 238) rfl), lw_t5 (List.mem_of_getElem? (i := 93) rfl), lw_t5 (List.mem_of_getElem? (i := 94) rfl)⟩
theorem lw_p37 : lw_okq (⟨"RumourBedsModel", "eventsAt", "(I)I"⟩, 16) := ⟨⟨by decide +kernel, by decide +kernel⟩, lw_t4 (List.mem_of_getElem? (i := 238) rfl), lw_t5 (List.mem_of_getElem? (i := 100) rfl), lw_t5 (List.mem_of_getElem? (i := 101) rfl)⟩
theorem lw_p38 : lw_okq (⟨"RumourBedsModel", "eatenAt", "(I)I"⟩, 16) := ⟨⟨by decide +kernel, by decide +kernel⟩, lw_t4 (List.mem_of_getElem? (i := 238) rfl), lw_t5 (List.mem_of_getElem? (i := 104) rfl), lw_t5 (List.mem_of_getElem? (i := 105) rfl)⟩
theorem lw_p39 : lw_okq (⟨"RumourBedsModel", "eats", "(I)I"⟩, 16) := ⟨⟨by decide +kernel, by decide +kernel⟩, lw_t4 (List.mem_of_getElem? (i := 238) rfl), lw_t5 (List.mem_of_getElem? (i := 108) rfl), lw_t5 (List.mem_of_getElem? (i := 109) rfl)⟩
theorem lw_p40 : lw_okq (⟨"RumourBedsModel", "adds", "(II)I"⟩, 16) := ⟨⟨by decide +kernel, by decide +kernel⟩, lw_t4 (List.mem_of_getElem? (i := 238) rfl), lw_t5 (List.mem_of_getElem? (i := 124) rfl), lw_t5 (List.mem_of_getElem? (i := 125) rfl)⟩
theorem lw_p41 : lw_okq (⟨"RumourBedsModel", "isRumour", "(I)Z"⟩, 16) := ⟨⟨by decide +kernel, by decide +kernel⟩, lw_t4 (List.mem_of_getElem? (i := 238) rfl), lw_t5 (List.mem_of_getElem? (i := 132) rfl), lw_t5 (List.mem_of_getElem? (i := 133) rfl)⟩
theorem lw_p42 : lw_okq (⟨"RumourBedsModel", "needs", "(I)I"⟩, 16) := ⟨⟨by decide +kernel, by decide +kernel⟩, lw_t4 (List.mem_of_getElem? (i := 238) rfl), lw_t5 (List.mem_of_getElem? (i := 136) rfl), lw_t5 (List.mem_of_getElem? (i := 137) rfl)⟩
theorem lw_p43 : lw_okq (⟨"RumourBedsModel", "grows", "(I)I"⟩, 16) := ⟨⟨by decide +kernel, by decide +kernel⟩, lw_t4 (List.mem_of_getElem? (i := 238) rfl), lw_t5 (List.mem_of_getElem? (i := 140) rfl), lw_t5 (List.mem_of_getElem? (i := 141) rfl)⟩
theorem lw_p44 : lw_okq (⟨"RumourBedsModel", "isTaken", "(II)Z"⟩, 16) := ⟨⟨by decide +kernel, by decide +kernel⟩, lw_t4 (List.mem_of_getElem? (i := 238) rfl), lw_t5 (List.mem_of_getElem? (i := 165) rfl), lw_t5 (List.mem_of_getElem? (i := 166) rfl)⟩
theorem lw_p45 : lw_okq (⟨"RumourBedsModel", "isFree", "(I)Z"⟩, 16) := ⟨⟨by decide +kernel, by decide +kernel⟩, lw_t4 (List.mem_of_getElem? (i := 238) rfl), lw_t5 (List.mem_of_getElem? (i := 169) rfl), lw_t5 (List.mem_of_getElem? (i := 170) rfl)⟩
theorem lw_p46 : lw_okq (⟨"RumourBedsModel", "isTrue", "(I)Z"⟩, 16) := ⟨⟨by decide +kernel, by decide +kernel⟩, lw_t4 (List.mem_of_getElem? (i := 238) rfl), lw_t5 (List.mem_of_getElem? (i := 180) rfl), lw_t5 (List.mem_of_getElem? (i := 181) rfl)⟩
theorem lw_p47 : lw_okq (⟨"RumourBedsModel", "hostOf", "(I)I"⟩, 16) := ⟨⟨by decide +kernel, by decide +kernel⟩, lw_t4 (List.mem_of_getElem? (i := 238) rfl), lw_t5 (List.mem_of_getElem? (i := 185) rfl), lw_t5 (List.mem_of_getElem? (i := 186) rfl)⟩
def lw_privs_3 : List (MethodName × Nat) := [(⟨"RumourBedsModel", "becomes", "(II)I"⟩, 16), (⟨"RumourBedsModel", "finds", "(I)I"⟩, 16), (⟨"RumourBedsModel", "has", "(II)I"⟩, 16), (⟨"RumourBedsModel", "thoseAt", "(I)I"⟩, 16), (⟨"RumourBedsModel", "its", "(II)I"⟩, 16), (⟨"RumourBedsModel", "eventsAt", "(I)I"⟩, 16), (⟨"RumourBedsModel", "eatenAt", "(I)I"⟩, 16), (⟨"RumourBedsModel", "eats", "(I)I"⟩, 16), (⟨"RumourBedsModel", "adds", "(II)I"⟩, 16), (⟨"RumourBedsModel", "isRumour", "(I)Z"⟩, 16), (⟨"RumourBedsModel", "needs", "(I)I"⟩, 16), (⟨"RumourBedsModel", "grows", "(I)I"⟩, 16), (⟨"RumourBedsModel", "isTaken", "(II)Z"⟩, 16), (⟨"RumourBedsModel", "isFree", "(I)Z"⟩, 16), (⟨"RumourBedsModel", "isTrue", "(I)Z"⟩, 16), (⟨"RumourBedsModel", "hostOf", "(I)I"⟩, 16)]
theorem lw_r3 : ∀ q ∈ lw_privs_3, lw_okq q := List.forall_mem_cons.mpr ⟨lw_p32, List.forall_mem_cons.mpr ⟨lw_p33, List.forall_mem_cons.mpr ⟨lw_p34, List.forall_mem_cons.mpr ⟨lw_p35, List.forall_mem_cons.mpr ⟨lw_p36, List.forall_mem_cons.mpr ⟨lw_p37, List.forall_mem_cons.mpr ⟨lw_p38, List.forall_mem_cons.mpr ⟨lw_p39, List.forall_mem_cons.mpr ⟨lw_p40, List.forall_mem_cons.mpr ⟨lw_p41, List.forall_mem_cons.mpr ⟨lw_p42, List.forall_mem_cons.mpr ⟨lw_p43, List.forall_mem_cons.mpr ⟨lw_p44, List.forall_mem_cons.mpr ⟨lw_p45, List.forall_mem_cons.mpr ⟨lw_p46, List.forall_mem_cons.mpr ⟨lw_p47, fun _ h => absurd h List.not_mem_nil⟩⟩⟩⟩⟩⟩⟩⟩⟩⟩⟩⟩⟩⟩⟩⟩
theorem lw_p48 : lw_okq (⟨"RumourBedsModel", "isImproved", "(II)V"⟩, 16) := ⟨⟨by decide +kernel, by decide +kernel⟩, lw_t4 (List.mem_of_getElem? (i := 238) rfl), lw_t5 (List.mem_of_getElem? (i := 194) rfl), lw_t5 (List.mem_of_getElem? (i := 195) rfl)⟩
theorem lw_p49 : lw_okq (⟨"RumourBedsModel", "becomesTrue", "(I)I"⟩, 16) := ⟨⟨by decide +kernel, by decide +kernel⟩, lw_t4 (List.mem_of_getElem? (i := 238) rfl), lw_t5 (List.mem_of_getElem? (i := 205) rfl), lw_t5 (List.mem_of_getElem? (i := 206) rfl)⟩
theorem lw_p50 : lw_okq (⟨"RumourBedsModel", "daysGo", "(I)V"⟩, 16) := ⟨⟨by decide +kernel, by decide +kernel⟩, lw_t4 (List.mem_of_getElem? (i := 238) rfl), lw_t5 (List.mem_of_getElem? (i := 218) rfl), lw_t5 (List.mem_of_getElem? (i := 219) rfl)⟩
theorem lw_p51 : lw_okq (⟨"RumourBedsModel", "day", "()V"⟩, 16) := ⟨⟨by decide +kernel, by decide +kernel⟩, lw_t4 (List.mem_of_getElem? (i := 238) rfl), lw_t5 (List.mem_of_getElem? (i := 222) rfl), lw_t5 (List.mem_of_getElem? (i := 223) rfl)⟩
theorem lw_p52 : lw_okq (⟨"RumourBedsModel", "feeds", "(I)V"⟩, 16) := ⟨⟨by decide +kernel, by decide +kernel⟩, lw_t4 (List.mem_of_getElem? (i := 238) rfl), lw_t5 (List.mem_of_getElem? (i := 226) rfl), lw_t5 (List.mem_of_getElem? (i := 227) rfl)⟩
theorem lw_p53 : lw_okq (⟨"RumourBedsModel", "makesThird", "(I)V"⟩, 16) := ⟨⟨by decide +kernel, by decide +kernel⟩, lw_t4 (List.mem_of_getElem? (i := 238) rfl), lw_t5 (List.mem_of_getElem? (i := 230) rfl), lw_t5 (List.mem_of_getElem? (i := 231) rfl)⟩
theorem lw_p54 : lw_okq (⟨"RumourBedsModel", "lodgersOf", "(II)I"⟩, 16) := ⟨⟨by decide +kernel, by decide +kernel⟩, lw_t4 (List.mem_of_getElem? (i := 238) rfl), lw_t5 (List.mem_of_getElem? (i := 234) rfl), lw_t5 (List.mem_of_getElem? (i := 235) rfl)⟩
theorem lw_p55 : lw_okq (⟨"RumourBedsModel", "isOnRoad", "(I)Z"⟩, 16) := ⟨⟨by decide +kernel, by decide +kernel⟩, lw_t4 (List.mem_of_getElem? (i := 238) rfl), lw_t5 (List.mem_of_getElem? (i := 238) rfl), lw_t5 (List.mem_of_getElem? (i := 239) rfl)⟩
theorem lw_p56 : lw_okq (⟨"RumourBedsModel", "bulks", "()I"⟩, 16) := ⟨⟨by decide +kernel, by decide +kernel⟩, lw_t4 (List.mem_of_getElem? (i := 238) rfl), lw_t6 (List.mem_of_getElem? (i := 6) rfl), lw_t6 (List.mem_of_getElem? (i := 7) rfl)⟩
theorem lw_p57 : lw_okq (⟨"RumourBedsModel", "larders", "()I"⟩, 16) := ⟨⟨by decide +kernel, by decide +kernel⟩, lw_t4 (List.mem_of_getElem? (i := 238) rfl), lw_t6 (List.mem_of_getElem? (i := 10) rfl), lw_t6 (List.mem_of_getElem? (i := 11) rfl)⟩
theorem lw_p58 : lw_okq (⟨"RumourBedsModel", "freeBeds", "()I"⟩, 16) := ⟨⟨by decide +kernel, by decide +kernel⟩, lw_t4 (List.mem_of_getElem? (i := 238) rfl), lw_t6 (List.mem_of_getElem? (i := 14) rfl), lw_t6 (List.mem_of_getElem? (i := 15) rfl)⟩
theorem lw_p59 : lw_okq (⟨"RumourBedsModel", "eaten", "()I"⟩, 16) := ⟨⟨by decide +kernel, by decide +kernel⟩, lw_t4 (List.mem_of_getElem? (i := 238) rfl), lw_t6 (List.mem_of_getElem? (i := 18) rfl), lw_t6 (List.mem_of_getElem? (i := 19) rfl)⟩
theorem lw_p60 : lw_okq (⟨"RumourBedsModel", "behind", "(II)I"⟩, 16) := ⟨⟨by decide +kernel, by decide +kernel⟩, lw_t4 (List.mem_of_getElem? (i := 238) rfl), lw_t6 (List.mem_of_getElem? (i := 29) rfl), lw_t6 (List.mem_of_getElem? (i := 30) rfl)⟩
theorem lw_p61 : lw_okq (⟨"RumourBedsModel", "laysAside", "()V"⟩, 16) := ⟨⟨by decide +kernel, by decide +kernel⟩, lw_t4 (List.mem_of_getElem? (i := 238) rfl), lw_t6 (List.mem_of_getElem? (i := 33) rfl), lw_t6 (List.mem_of_getElem? (i := 34) rfl)⟩
theorem lw_p62 : lw_okq (⟨"RumourBedsModel", "takesBack", "(I)I"⟩, 16) := ⟨⟨by decide +kernel, by decide +kernel⟩, lw_t4 (List.mem_of_getElem? (i := 238) rfl), lw_t6 (List.mem_of_getElem? (i := 37) rfl), lw_t6 (List.mem_of_getElem? (i := 38) rfl)⟩
theorem lw_p63 : lw_okq (⟨"RumourBedsModel", "firstAs", "(II)I"⟩, 16) := ⟨⟨by decide +kernel, by decide +kernel⟩, lw_t4 (List.mem_of_getElem? (i := 238) rfl), lw_t6 (List.mem_of_getElem? (i := 49) rfl), lw_t6 (List.mem_of_getElem? (i := 50) rfl)⟩
def lw_privs_4 : List (MethodName × Nat) := [(⟨"RumourBedsModel", "isImproved", "(II)V"⟩, 16), (⟨"RumourBedsModel", "becomesTrue", "(I)I"⟩, 16), (⟨"RumourBedsModel", "daysGo", "(I)V"⟩, 16), (⟨"RumourBedsModel", "day", "()V"⟩, 16), (⟨"RumourBedsModel", "feeds", "(I)V"⟩, 16), (⟨"RumourBedsModel", "makesThird", "(I)V"⟩, 16), (⟨"RumourBedsModel", "lodgersOf", "(II)I"⟩, 16), (⟨"RumourBedsModel", "isOnRoad", "(I)Z"⟩, 16), (⟨"RumourBedsModel", "bulks", "()I"⟩, 16), (⟨"RumourBedsModel", "larders", "()I"⟩, 16), (⟨"RumourBedsModel", "freeBeds", "()I"⟩, 16), (⟨"RumourBedsModel", "eaten", "()I"⟩, 16), (⟨"RumourBedsModel", "behind", "(II)I"⟩, 16), (⟨"RumourBedsModel", "laysAside", "()V"⟩, 16), (⟨"RumourBedsModel", "takesBack", "(I)I"⟩, 16), (⟨"RumourBedsModel", "firstAs", "(II)I"⟩, 16)]
theorem lw_r4 : ∀ q ∈ lw_privs_4, lw_okq q := List.forall_mem_cons.mpr ⟨lw_p48, List.forall_mem_cons.mpr ⟨lw_p49, List.forall_mem_cons.mpr ⟨lw_p50, List.forall_mem_cons.mpr ⟨lw_p51, List.forall_mem_cons.mpr ⟨lw_p52, List.forall_mem_cons.mpr ⟨lw_p53, List.forall_mem_cons.mpr ⟨lw_p54, List.forall_mem_cons.mpr ⟨lw_p55, List.forall_mem_cons.mpr ⟨lw_p56, List.forall_mem_cons.mpr ⟨lw_p57, List.forall_mem_cons.mpr ⟨lw_p58, List.forall_mem_cons.mpr ⟨lw_p59, List.forall_mem_cons.mpr ⟨lw_p60, List.forall_mem_cons.mpr ⟨lw_p61, List.forall_mem_cons.mpr ⟨lw_p62, List.forall_mem_cons.mpr ⟨lw_p63, fun _ h => absurd h List.not_mem_nil⟩⟩⟩⟩⟩⟩⟩⟩⟩⟩⟩⟩⟩⟩⟩⟩
theorem lw_p64 : lw_okq (⟨"RumourBedsModel", "wrongLodger", "(I)I"⟩, 16) := ⟨⟨by decide +kernel, by decide +kernel⟩, lw_t4 (List.mem_of_getElem? (i := 238) rfl), lw_t6 (List.mem_of_getElem? (i := 66) rfl), lw_t6 (List.mem_of_getElem? (i := 67) rfl)⟩
theorem lw_p65 : lw_okq (⟨"RumourBedsModel", "saves", "()V"⟩, 16) := ⟨⟨by decide +kernel, by decide +kernel⟩, lw_t4 (List.mem_of_getElem? (i := 238) rfl), lw_t6 (List.mem_of_getElem? (i := 114) rfl), lw_t6 (List.mem_of_getElem? (i := 115) rfl)⟩
theorem lw_p66 : lw_okq (⟨"RumourBedsModel", "token", "()V"⟩, 16) := ⟨⟨by decide +kernel, by decide +kernel⟩, lw_t4 (List.mem_of_getElem? (i := 238) rfl), lw_t6 (List.mem_of_getElem? (i := 118) rfl), lw_t6 (List.mem_of_getElem? (i := 119) rfl)⟩
theorem lw_p67 : lw_okq (⟨"RumourBedsModel", "byteAt", "(I)I"⟩, 16) := ⟨⟨by decide +kernel, by decide +kernel⟩, lw_t4 (List.mem_of_getElem? (i := 238) rfl), lw_t6 (List.mem_of_getElem? (i := 122) rfl), lw_t6 (List.mem_of_getElem? (i := 123) rfl)⟩
theorem lw_p68 : lw_okq (⟨"RumourBedsModel", "item", "()V"⟩, 16) := ⟨⟨by decide +kernel, by decide +kernel⟩, lw_t4 (List.mem_of_getElem? (i := 238) rfl), lw_t6 (List.mem_of_getElem? (i := 136) rfl), lw_t6 (List.mem_of_getElem? (i := 137) rfl)⟩
theorem lw_p69 : lw_okq (⟨"RumourBedsModel", "kindHere", "()I"⟩, 16) := ⟨⟨by decide +kernel, by decide +kernel⟩, lw_t4 (List.mem_of_getElem? (i := 238) rfl), lw_t6 (List.mem_of_getElem? (i := 140) rfl), lw_t6 (List.mem_of_getElem? (i := 141) rfl)⟩
theorem lw_p70 : lw_okq (⟨"RumourBedsModel", "word", "()J"⟩, 16) := ⟨⟨by decide +kernel, by decide +kernel⟩, lw_t4 (List.mem_of_getElem? (i := 238) rfl), lw_t6 (List.mem_of_getElem? (i := 144) rfl), lw_t6 (List.mem_of_getElem? (i := 145) rfl)⟩
theorem lw_p71 : lw_okq (⟨"RumourBedsModel", "rumourItem", "(I)V"⟩, 16) := ⟨⟨by decide +kernel, by decide +kernel⟩, lw_t4 (List.mem_of_getElem? (i := 238) rfl), lw_t6 (List.mem_of_getElem? (i := 156) rfl), lw_t6 (List.mem_of_getElem? (i := 157) rfl)⟩
theorem lw_p72 : lw_okq (⟨"RumourBedsModel", "must", "(Z)V"⟩, 16) := ⟨⟨by decide +kernel, by decide +kernel⟩, lw_t4 (List.mem_of_getElem? (i := 238) rfl), lw_t6 (List.mem_of_getElem? (i := 160) rfl), lw_t6 (List.mem_of_getElem? (i := 161) rfl)⟩
theorem lw_p73 : lw_okq (⟨"RumourBedsModel", "number", "(II)V"⟩, 16) := ⟨⟨by decide +kernel, by decide +kernel⟩, lw_t4 (List.mem_of_getElem? (i := 238) rfl), lw_t6 (List.mem_of_getElem? (i := 165) rfl), lw_t6 (List.mem_of_getElem? (i := 166) rfl)⟩
theorem lw_p74 : lw_okq (⟨"RumourBedsModel", "partItem", "(JII)V"⟩, 16) := ⟨⟨by decide +kernel, by decide +kernel⟩, lw_t4 (List.mem_of_getElem? (i := 238) rfl), lw_t6 (List.mem_of_getElem? (i := 170) rfl), lw_t6 (List.mem_of_getElem? (i := 171) rfl)⟩
theorem lw_p75 : lw_okq (⟨"RumourBedsModel", "peeked", "()I"⟩, 16) := ⟨⟨by decide +kernel, by decide +kernel⟩, lw_t4 (List.mem_of_getElem? (i := 238) rfl), lw_t6 (List.mem_of_getElem? (i := 175) rfl), lw_t6 (List.mem_of_getElem? (i := 176) rfl)⟩
theorem lw_p76 : lw_okq (⟨"RumourBedsModel", "houseItem", "()V"⟩, 16) := ⟨⟨by decide +kernel, by decide +kernel⟩, lw_t4 (List.mem_of_getElem? (i := 238) rfl), lw_t6 (List.mem_of_getElem? (i := 180) rfl), lw_t6 (List.mem_of_getElem? (i := 181) rfl)⟩
theorem lw_p77 : lw_okq (⟨"RumourBedsModel", "putsBack", "()V"⟩, 16) := ⟨⟨by decide +kernel, by decide +kernel⟩, lw_t4 (List.mem_of_getElem? (i := 238) rfl), lw_t6 (List.mem_of_getElem? (i := 188) rfl), lw_t6 (List.mem_of_getElem? (i := 189) rfl)⟩
theorem lw_p78 : lw_okq (⟨"RumourBedsModel", "wrongSheet", "(I)I"⟩, 16) := ⟨⟨by decide +kernel, by decide +kernel⟩, lw_t4 (List.mem_of_getElem? (i := 238) rfl), lw_t6 (List.mem_of_getElem? (i := 204) rfl), lw_t6 (List.mem_of_getElem? (i := 205) rfl)⟩
theorem lw_p79 : lw_okq (⟨"RumourBedsModel", "wrongBook", "(II)I"⟩, 16) := ⟨⟨by decide +kernel, by decide +kernel⟩, lw_t4 (List.mem_of_getElem? (i := 238) rfl), lw_t6 (List.mem_of_getElem? (i := 224) rfl), lw_t6 (List.mem_of_getElem? (i := 225) rfl)⟩
def lw_privs_5 : List (MethodName × Nat) := [(⟨"RumourBedsModel", "wrongLodger", "(I)I"⟩, 16), (⟨"RumourBedsModel", "saves", "()V"⟩, 16), (⟨"RumourBedsModel", "token", "()V"⟩, 16), (⟨"RumourBedsModel", "byteAt", "(I)I"⟩, 16), (⟨"RumourBedsModel", "item", "()V"⟩, 16), (⟨"RumourBedsModel", "kindHere", "()I"⟩, 16), (⟨"RumourBedsModel", "word", "()J"⟩, 16), (⟨"RumourBedsModel", "rumourItem", "(I)V"⟩, 16), (⟨"RumourBedsModel", "must", "(Z)V"⟩, 16), (⟨"RumourBedsModel", "number", "(II)V"⟩, 16), (⟨"RumourBedsModel", "partItem", "(JII)V"⟩, 16), (⟨"RumourBedsModel", "peeked", "()I"⟩, 16), (⟨"RumourBedsModel", "houseItem", "()V"⟩, 16), (⟨"RumourBedsModel", "putsBack", "()V"⟩, 16), (⟨"RumourBedsModel", "wrongSheet", "(I)I"⟩, 16), (⟨"RumourBedsModel", "wrongBook", "(II)I"⟩, 16)]
theorem lw_r5 : ∀ q ∈ lw_privs_5, lw_okq q := List.forall_mem_cons.mpr ⟨lw_p64, List.forall_mem_cons.mpr ⟨lw_p65, List.forall_mem_cons.mpr ⟨lw_p66, List.forall_mem_cons.mpr ⟨lw_p67, List.forall_mem_cons.mpr ⟨lw_p68, List.forall_mem_cons.mpr ⟨lw_p69, List.forall_mem_cons.mpr ⟨lw_p70, List.forall_mem_cons.mpr ⟨lw_p71, List.forall_mem_cons.mpr ⟨lw_p72, List.forall_mem_cons.mpr ⟨lw_p73, List.forall_mem_cons.mpr ⟨lw_p74, List.forall_mem_cons.mpr ⟨lw_p75, List.forall_mem_cons.mpr ⟨lw_p76, List.forall_mem_cons.mpr ⟨lw_p77, List.forall_mem_cons.mpr ⟨lw_p78, List.forall_mem_cons.mpr ⟨lw_p79, fun _ h => absurd h List.not_mem_nil⟩⟩⟩⟩⟩⟩⟩⟩⟩⟩⟩⟩⟩⟩⟩⟩
theorem lw_p80 : lw_okq (⟨"RumourBedsModel", "isBook", "(II)Z"⟩, 16) := ⟨⟨by decide +kernel, by decide +kernel⟩, lw_t4 (List.mem_of_getElem? (i := 238) rfl), lw_t6 (List.mem_of_getElem? (i := 232) rfl), lw_t6 (List.mem_of_getElem? (i := 233) rfl)⟩
theorem lw_p81 : lw_okq (⟨"RumourBedsModel", "bedsAll", "()I"⟩, 16) := ⟨⟨by decide +kernel, by decide +kernel⟩, lw_t4 (List.mem_of_getElem? (i := 238) rfl), lw_t7 (List.mem_of_getElem? (i := 12) rfl), lw_t7 (List.mem_of_getElem? (i := 13) rfl)⟩
def lw_privs_6 : List (MethodName × Nat) := [(⟨"RumourBedsModel", "isBook", "(II)Z"⟩, 16), (⟨"RumourBedsModel", "bedsAll", "()I"⟩, 16)]
theorem lw_r6 : ∀ q ∈ lw_privs_6, lw_okq q := List.forall_mem_cons.mpr ⟨lw_p80, List.forall_mem_cons.mpr ⟨lw_p81, fun _ h => absurd h List.not_mem_nil⟩⟩
def lw_privs : List (MethodName × Nat) := lw_privs_1 ++ (lw_privs_2 ++ (lw_privs_3 ++ (lw_privs_4 ++ (lw_privs_5 ++ (lw_privs_6)))))
def lw_tbl : List Cond := k2_sels lw_privs ++ tables_1
theorem lw_privs_ok : ∀ q ∈ lw_privs, lw_okq q := by
  show ∀ q ∈ lw_privs_1 ++ (lw_privs_2 ++ (lw_privs_3 ++ (lw_privs_4 ++ (lw_privs_5 ++ (lw_privs_6))))), lw_okq q
  exact List.forall_mem_append.mpr ⟨lw_r1, List.forall_mem_append.mpr ⟨lw_r2, List.forall_mem_append.mpr ⟨lw_r3, List.forall_mem_append.mpr ⟨lw_r4, List.forall_mem_append.mpr ⟨lw_r5, lw_r6⟩⟩⟩⟩⟩
-- ===== ONE list of words for every method: the tables' words that hold all through a run =====
def lw_all : List Cond := lw_tbl.filter goodWord
/-- a word of the tables by its place: claim/WORDS.tsv -/
theorem lw_w {w : Cond} (i : Nat) (h : lw_tbl[i]? = some w) (g : goodWord w = true) : w ∈ lw_all := List.mem_filter.mpr ⟨List.mem_of_getElem? h, g⟩
theorem lw_all_tbl {w : Cond} (h : w ∈ lw_all) : w ∈ lw_tbl := (List.mem_filter.mp h).1
theorem lw_self : GoodIn lw_all lw_all := fun w h => ⟨h, good_of_word (List.mem_filter.mp h).2⟩
/-- a class's field words, by their places -/
theorem lw_in (ws : List Cond) (ps : List Nat) (hp : ws = ps.filterMap (fun i => lw_tbl[i]?)) (hg : ws.all goodWord = true) : ∀ w ∈ ws, w ∈ lw_all := by
  intro w h
  have h1 := List.all_eq_true.mp hg w h
  rw [hp] at h
  obtain ⟨i, -, hi⟩ := List.mem_filterMap.mp h
  exact lw_w i hi h1
/-- the words of a contract for the method y with code b, L locals, answer r -/
abbrev ws_ (y : MethodName) (b : ByteArray) (L : Nat) (r : Option FieldType) : List Cond := Cond.code y b L r :: lw_all
theorem lw_meth {y : MethodName} {b : ByteArray} {L : Nat} {r : Option FieldType} (h : Cond.code y b L r ∈ lw_all) : GoodIn lw_all (ws_ y b L r) := by
  intro w hw
  rcases List.mem_cons.mp hw with e | e
  · rw [e]
    exact lw_self _ h
  · exact lw_self _ e
theorem lw_app {a c : List Cond} (ha : ∀ w ∈ a, w ∈ lw_all) (hc : GoodIn lw_all c) : GoodIn lw_all (a ++ c) := by
  intro w hw
  rcases List.mem_append.mp hw with e | e
  · exact lw_self w (ha w e)
  · exact hc w e
/-- what a call through an object asks: cwV n hts (lw_V ..) -/
theorem lw_V {own : String} {idx : Nat} {C : String} {y : MethodName} {b : ByteArray} {L : Nat} {r : Option FieldType} (h1 : Cond.methodLink own idx y ∈ lw_all) (h2 : Cond.instanceMethod y ∈ lw_all) (h3 : Cond.selects C y y ∈ lw_all) (h4 : Cond.initialized C ∈ lw_all) (h5 : Cond.code y b L r ∈ lw_all) : GoodIn lw_all (wsV own idx C y (ws_ y b L r)) := by
  refine lw_app ?_ (lw_meth h5)
  intro w hw
  simp only [List.mem_cons, List.not_mem_nil, or_false] at hw
  rcases hw with e | e | e | e
  · rw [e]; exact h1
  · rw [e]; exact h2
  · rw [e]; exact h3
  · rw [e]; exact h4
/-- what a static call asks: va_cwS n hts (lw_S ..) -/
theorem lw_S {own : String} {idx : Nat} {y : MethodName} {b : ByteArray} {L : Nat} {r : Option FieldType} (h1 : Cond.methodLink own idx y ∈ lw_all) (h2 : Cond.static y ∈ lw_all) (h3 : Cond.initialized y.cls ∈ lw_all) (h4 : Cond.code y b L r ∈ lw_all) : GoodIn lw_all (va_wsS own idx y (ws_ y b L r)) := by
  refine lw_app ?_ (lw_meth h4)
  intro w hw
  simp only [List.mem_cons, List.not_mem_nil, or_false] at hw
  rcases hw with e | e | e
  · rw [e]; exact h1
  · rw [e]; exact h2
  · rw [e]; exact h3
/-- the words of a contract for a method WITH HANDLERS (hh: its table) -/
abbrev wsW_ (y : MethodName) (b : ByteArray) (L : Nat) (r : Option FieldType) (hh : List (Nat × Nat × Nat × Nat)) : List Cond := Cond.codeWith y b L r hh :: lw_all
theorem lw_methW {y : MethodName} {b : ByteArray} {L : Nat} {r : Option FieldType} {hh : List (Nat × Nat × Nat × Nat)} (h : Cond.codeWith y b L r hh ∈ lw_all) : GoodIn lw_all (wsW_ y b L r hh) := by
  intro w hw
  rcases List.mem_cons.mp hw with e | e
  · rw [e]
    exact lw_self _ h
  · exact lw_self _ e
/-- any list of words by their places (lw_in), good -/
theorem lw_good {ws : List Cond} (h : ∀ w ∈ ws, w ∈ lw_all) : GoodIn lw_all ws := fun w hw => lw_self w (h w hw)
/-- what a call of a method with handlers asks: vx_cwVW n hts (lw_VW ..), vx_cwSW n hts (lw_SW ..) -/
theorem lw_VW {own : String} {idx : Nat} {C : String} {y : MethodName} {b : ByteArray} {L : Nat} {r : Option FieldType} {hh : List (Nat × Nat × Nat × Nat)} (h1 : Cond.methodLink own idx y ∈ lw_all) (h2 : Cond.instanceMethod y ∈ lw_all) (h3 : Cond.selects C y y ∈ lw_all) (h4 : Cond.initialized C ∈ lw_all) (h5 : Cond.codeWith y b L r hh ∈ lw_all) : GoodIn lw_all (wsV own idx C y (wsW_ y b L r hh)) := by
  refine lw_app ?_ (lw_methW h5)
  intro w hw
  simp only [List.mem_cons, List.not_mem_nil, or_false] at hw
  rcases hw with e | e | e | e
  · rw [e]; exact h1
  · rw [e]; exact h2
  · rw [e]; exact h3
  · rw [e]; exact h4
theorem lw_SW {own : String} {idx : Nat} {y : MethodName} {b : ByteArray} {L : Nat} {r : Option FieldType} {hh : List (Nat × Nat × Nat × Nat)} (h1 : Cond.methodLink own idx y ∈ lw_all) (h2 : Cond.static y ∈ lw_all) (h3 : Cond.initialized y.cls ∈ lw_all) (h4 : Cond.codeWith y b L r hh ∈ lw_all) : GoodIn lw_all (va_wsS own idx y (wsW_ y b L r hh)) := by
  refine lw_app ?_ (lw_methW h4)
  intro w hw
  simp only [List.mem_cons, List.not_mem_nil, or_false] at hw
  rcases hw with e | e | e
  · rw [e]; exact h1
  · rw [e]; exact h2
  · rw [e]; exact h3
/-- a word by its place in its run of the tables -/
theorem lw_at {r : List Cond} (hr : ∀ w ∈ r, w ∈ lw_tbl) {w : Cond} (i : Nat) (h : r[i]? = some w) : w ∈ lw_tbl := hr w (List.mem_of_getElem? h)
theorem lw_g {w : Cond} (h : w ∈ lw_tbl) (g : goodWord w = true) : w ∈ lw_all := List.mem_filter.mpr ⟨h, g⟩
theorem lw_ms : ∀ w ∈ k2_sels lw_privs, w ∈ lw_tbl := fun w h => show w ∈ k2_sels lw_privs ++ tables_1 from List.mem_append_left _ h
theorem lw_m1 : ∀ w ∈ tables_1_1, w ∈ lw_tbl := fun w h => show w ∈ k2_sels lw_privs ++ tables_1 from List.mem_append_right (k2_sels lw_privs) (show w ∈ tables_1 from List.mem_append_left _ h)
theorem lw_m2 : ∀ w ∈ tables_1_2, w ∈ lw_tbl := fun w h => show w ∈ k2_sels lw_privs ++ tables_1 from List.mem_append_right (k2_sels lw_privs) (show w ∈ tables_1 from List.mem_append_right _ (List.mem_append_left _ h))
theorem lw_m3 : ∀ w ∈ tables_1_3, w ∈ lw_tbl := fun w h => show w ∈ k2_sels lw_privs ++ tables_1 from List.mem_append_right (k2_sels lw_privs) (show w ∈ tables_1 from List.mem_append_right _ (List.mem_append_right _ (List.mem_append_left _ h)))
theorem lw_m4 : ∀ w ∈ tables_1_4, w ∈ lw_tbl := fun w h => show w ∈ k2_sels lw_privs ++ tables_1 from List.mem_append_right (k2_sels lw_privs) (show w ∈ tables_1 from List.mem_append_right _ (List.mem_append_right _ (List.mem_append_right _ (List.mem_append_left _ h))))
theorem lw_m5 : ∀ w ∈ tables_1_5, w ∈ lw_tbl := fun w h => show w ∈ k2_sels lw_privs ++ tables_1 from List.mem_append_right (k2_sels lw_privs) (show w ∈ tables_1 from List.mem_append_right _ (List.mem_append_right _ (List.mem_append_right _ (List.mem_append_right _ (List.mem_append_left _ h)))))
theorem lw_m6 : ∀ w ∈ tables_1_6, w ∈ lw_tbl := fun w h => show w ∈ k2_sels lw_privs ++ tables_1 from List.mem_append_right (k2_sels lw_privs) (show w ∈ tables_1 from List.mem_append_right _ (List.mem_append_right _ (List.mem_append_right _ (List.mem_append_right _ (List.mem_append_right _ (List.mem_append_left _ h))))))
theorem lw_m7 : ∀ w ∈ tables_1_7, w ∈ lw_tbl := fun w h => show w ∈ k2_sels lw_privs ++ tables_1 from List.mem_append_right (k2_sels lw_privs) (show w ∈ tables_1 from List.mem_append_right _ (List.mem_append_right _ (List.mem_append_right _ (List.mem_append_right _ (List.mem_append_right _ (List.mem_append_right _ h))))))
theorem qs0 : (Cond.selects "java/lang/Throwable" ⟨"java/lang/Throwable", "fillInStackTrace", "(I)Ljava/lang/Throwable;"⟩ ⟨"java/lang/Throwable", "fillInStackTrace", "(I)Ljava/lang/Throwable;"⟩) ∈ lw_all := lw_g (lw_at lw_ms 0 rfl) rfl
theorem qs1 : (Cond.selects "RumourBeds" ⟨"RumourBeds", "finds", "(LRumourBeds$Finding;)I"⟩ ⟨"RumourBeds", "finds", "(LRumourBeds$Finding;)I"⟩) ∈ lw_all := lw_g (lw_at lw_ms 1 rfl) rfl
theorem qs2 : (Cond.selects "RumourBeds" ⟨"RumourBeds", "eventsIn", "(I)I"⟩ ⟨"RumourBeds", "eventsIn", "(I)I"⟩) ∈ lw_all := lw_g (lw_at lw_ms 2 rfl) rfl
theorem qs3 : (Cond.selects "RumourBeds$Town" ⟨"RumourBeds$Town", "pooled", "(II)LRumourBeds$Rumour;"⟩ ⟨"RumourBeds$Town", "pooled", "(II)LRumourBeds$Rumour;"⟩) ∈ lw_all := lw_g (lw_at lw_ms 3 rfl) rfl
theorem qs4 : (Cond.selects "RumourBeds" ⟨"RumourBeds", "rumourAt", "(I)LRumourBeds$Rumour;"⟩ ⟨"RumourBeds", "rumourAt", "(I)LRumourBeds$Rumour;"⟩) ∈ lw_all := lw_g (lw_at lw_ms 4 rfl) rfl
theorem qs5 : (Cond.selects "RumourBeds" ⟨"RumourBeds", "lodger", "(I)LRumourBeds$Rumour;"⟩ ⟨"RumourBeds", "lodger", "(I)LRumourBeds$Rumour;"⟩) ∈ lw_all := lw_g (lw_at lw_ms 5 rfl) rfl
theorem qs6 : (Cond.selects "RumourBeds$Town" ⟨"RumourBeds$Town", "lodges", "(LRumourBeds$Rumour;)V"⟩ ⟨"RumourBeds$Town", "lodges", "(LRumourBeds$Rumour;)V"⟩) ∈ lw_all := lw_g (lw_at lw_ms 6 rfl) rfl
theorem qs7 : (Cond.selects "RumourBeds$Town" ⟨"RumourBeds$Town", "third", "(I)V"⟩ ⟨"RumourBeds$Town", "third", "(I)V"⟩) ∈ lw_all := lw_g (lw_at lw_ms 7 rfl) rfl
theorem qs8 : (Cond.selects "RumourBeds$Town" ⟨"RumourBeds$Town", "ofEvent", "(II)I"⟩ ⟨"RumourBeds$Town", "ofEvent", "(II)I"⟩) ∈ lw_all := lw_g (lw_at lw_ms 8 rfl) rfl
theorem qs9 : (Cond.selects "RumourBeds$Town" ⟨"RumourBeds$Town", "half", "(I)I"⟩ ⟨"RumourBeds$Town", "half", "(I)I"⟩) ∈ lw_all := lw_g (lw_at lw_ms 9 rfl) rfl
theorem qs10 : (Cond.selects "RumourBeds" ⟨"RumourBeds", "bulks", "()I"⟩ ⟨"RumourBeds", "bulks", "()I"⟩) ∈ lw_all := lw_g (lw_at lw_ms 10 rfl) rfl
theorem qs11 : (Cond.selects "RumourBeds" ⟨"RumourBeds", "freeBeds", "()I"⟩ ⟨"RumourBeds", "freeBeds", "()I"⟩) ∈ lw_all := lw_g (lw_at lw_ms 11 rfl) rfl
theorem qs12 : (Cond.selects "RumourBeds" ⟨"RumourBeds", "allEaten", "()I"⟩ ⟨"RumourBeds", "allEaten", "()I"⟩) ∈ lw_all := lw_g (lw_at lw_ms 12 rfl) rfl
theorem qs13 : (Cond.selects "RumourBeds" ⟨"RumourBeds", "tried", "()LRumourBeds$Town;"⟩ ⟨"RumourBeds", "tried", "()LRumourBeds$Town;"⟩) ∈ lw_all := lw_g (lw_at lw_ms 13 rfl) rfl
theorem qs14 : (Cond.selects "RumourBeds$Reader" ⟨"RumourBeds$Reader", "next", "()V"⟩ ⟨"RumourBeds$Reader", "next", "()V"⟩) ∈ lw_all := lw_g (lw_at lw_ms 14 rfl) rfl
theorem qs15 : (Cond.selects "RumourBeds$Reader" ⟨"RumourBeds$Reader", "isAt", "(III)Z"⟩ ⟨"RumourBeds$Reader", "isAt", "(III)Z"⟩) ∈ lw_all := lw_g (lw_at lw_ms 15 rfl) rfl
theorem qs16 : (Cond.selects "RumourBeds$Reader" ⟨"RumourBeds$Reader", "item", "()V"⟩ ⟨"RumourBeds$Reader", "item", "()V"⟩) ∈ lw_all := lw_g (lw_at lw_ms 16 rfl) rfl
theorem qs17 : (Cond.selects "RumourBeds$Reader" ⟨"RumourBeds$Reader", "kindHere", "()I"⟩ ⟨"RumourBeds$Reader", "kindHere", "()I"⟩) ∈ lw_all := lw_g (lw_at lw_ms 17 rfl) rfl
theorem qs18 : (Cond.selects "RumourBeds$Reader" ⟨"RumourBeds$Reader", "isWord", "(Ljava/lang/String;)Z"⟩ ⟨"RumourBeds$Reader", "isWord", "(Ljava/lang/String;)Z"⟩) ∈ lw_all := lw_g (lw_at lw_ms 18 rfl) rfl
theorem qs19 : (Cond.selects "RumourBeds$Reader" ⟨"RumourBeds$Reader", "rumour", "(I)V"⟩ ⟨"RumourBeds$Reader", "rumour", "(I)V"⟩) ∈ lw_all := lw_g (lw_at lw_ms 19 rfl) rfl
theorem qs20 : (Cond.selects "RumourBeds$Reader" ⟨"RumourBeds$Reader", "must", "(Z)V"⟩ ⟨"RumourBeds$Reader", "must", "(Z)V"⟩) ∈ lw_all := lw_g (lw_at lw_ms 20 rfl) rfl
theorem qs21 : (Cond.selects "RumourBeds$Reader" ⟨"RumourBeds$Reader", "wants", "(Ljava/lang/String;)V"⟩ ⟨"RumourBeds$Reader", "wants", "(Ljava/lang/String;)V"⟩) ∈ lw_all := lw_g (lw_at lw_ms 21 rfl) rfl
theorem qs22 : (Cond.selects "RumourBeds$Reader" ⟨"RumourBeds$Reader", "event", "()I"⟩ ⟨"RumourBeds$Reader", "event", "()I"⟩) ∈ lw_all := lw_g (lw_at lw_ms 22 rfl) rfl
theorem qs23 : (Cond.selects "RumourBeds$Reader" ⟨"RumourBeds$Reader", "number", "(II)I"⟩ ⟨"RumourBeds$Reader", "number", "(II)I"⟩) ∈ lw_all := lw_g (lw_at lw_ms 23 rfl) rfl
theorem qs24 : (Cond.selects "RumourBeds$Reader" ⟨"RumourBeds$Reader", "numberHere", "()I"⟩ ⟨"RumourBeds$Reader", "numberHere", "()I"⟩) ∈ lw_all := lw_g (lw_at lw_ms 24 rfl) rfl
theorem qs25 : (Cond.selects "RumourBeds$Reader" ⟨"RumourBeds$Reader", "takes", "(Ljava/lang/String;)Z"⟩ ⟨"RumourBeds$Reader", "takes", "(Ljava/lang/String;)Z"⟩) ∈ lw_all := lw_g (lw_at lw_ms 25 rfl) rfl
theorem qs26 : (Cond.selects "RumourBeds$Reader" ⟨"RumourBeds$Reader", "bed", "()I"⟩ ⟨"RumourBeds$Reader", "bed", "()I"⟩) ∈ lw_all := lw_g (lw_at lw_ms 26 rfl) rfl
theorem qs27 : (Cond.selects "RumourBeds$Reader" ⟨"RumourBeds$Reader", "house", "()V"⟩ ⟨"RumourBeds$Reader", "house", "()V"⟩) ∈ lw_all := lw_g (lw_at lw_ms 27 rfl) rfl
theorem qs28 : (Cond.selects "RumourBeds" ⟨"RumourBeds", "there", "(I)Ljava/lang/Object;"⟩ ⟨"RumourBeds", "there", "(I)Ljava/lang/Object;"⟩) ∈ lw_all := lw_g (lw_at lw_ms 28 rfl) rfl
theorem qs29 : (Cond.selects "RumourBeds" ⟨"RumourBeds", "isJust", "(Ljava/lang/Object;I)Z"⟩ ⟨"RumourBeds", "isJust", "(Ljava/lang/Object;I)Z"⟩) ∈ lw_all := lw_g (lw_at lw_ms 29 rfl) rfl
theorem qs30 : (Cond.selects "RumourBeds" ⟨"RumourBeds", "numberAt", "(II)Ljava/lang/Object;"⟩ ⟨"RumourBeds", "numberAt", "(II)Ljava/lang/Object;"⟩) ∈ lw_all := lw_g (lw_at lw_ms 30 rfl) rfl
theorem qs31 : (Cond.selects "RumourBeds" ⟨"RumourBeds", "allBeds", "()I"⟩ ⟨"RumourBeds", "allBeds", "()I"⟩) ∈ lw_all := lw_g (lw_at lw_ms 31 rfl) rfl
theorem qs32 : (Cond.selects "RumourBedsModel" ⟨"RumourBedsModel", "becomes", "(II)I"⟩ ⟨"RumourBedsModel", "becomes", "(II)I"⟩) ∈ lw_all := lw_g (lw_at lw_ms 32 rfl) rfl
theorem qs33 : (Cond.selects "RumourBedsModel" ⟨"RumourBedsModel", "finds", "(I)I"⟩ ⟨"RumourBedsModel", "finds", "(I)I"⟩) ∈ lw_all := lw_g (lw_at lw_ms 33 rfl) rfl
theorem qs34 : (Cond.selects "RumourBedsModel" ⟨"RumourBedsModel", "has", "(II)I"⟩ ⟨"RumourBedsModel", "has", "(II)I"⟩) ∈ lw_all := lw_g (lw_at lw_ms 34 rfl) rfl
theorem qs35 : (Cond.selects "RumourBedsModel" ⟨"RumourBedsModel", "thoseAt", "(I)I"⟩ ⟨"RumourBedsModel", "thoseAt", "(I)I"⟩) ∈ lw_all := lw_g (lw_at lw_ms 35 rfl) rfl
theorem qs36 : (Cond.selects "RumourBedsModel" ⟨"RumourBedsModel", "its", "(II)I"⟩ ⟨"RumourBedsModel", "its", "(II)I"⟩) ∈ lw_all := lw_g (lw_at lw_ms 36 rfl) rfl
theorem qs37 : (Cond.selects "RumourBedsModel" ⟨"RumourBedsModel", "eventsAt", "(I)I"⟩ ⟨"RumourBedsModel", "eventsAt", "(I)I"⟩) ∈ lw_all := lw_g (lw_at lw_ms 37 rfl) rfl
theorem qs38 : (Cond.selects "RumourBedsModel" ⟨"RumourBedsModel", "eatenAt", "(I)I"⟩ ⟨"RumourBedsModel", "eatenAt", "(I)I"⟩) ∈ lw_all := lw_g (lw_at lw_ms 38 rfl) rfl
theorem qs39 : (Cond.selects "RumourBedsModel" ⟨"RumourBedsModel", "eats", "(I)I"⟩ ⟨"RumourBedsModel", "eats", "(I)I"⟩) ∈ lw_all := lw_g (lw_at lw_ms 39 rfl) rfl
theorem qs40 : (Cond.selects "RumourBedsModel" ⟨"RumourBedsModel", "adds", "(II)I"⟩ ⟨"RumourBedsModel", "adds", "(II)I"⟩) ∈ lw_all := lw_g (lw_at lw_ms 40 rfl) rfl
theorem qs41 : (Cond.selects "RumourBedsModel" ⟨"RumourBedsModel", "isRumour", "(I)Z"⟩ ⟨"RumourBedsModel", "isRumour", "(I)Z"⟩) ∈ lw_all := lw_g (lw_at lw_ms 41 rfl) rfl
theorem qs42 : (Cond.selects "RumourBedsModel" ⟨"RumourBedsModel", "needs", "(I)I"⟩ ⟨"RumourBedsModel", "needs", "(I)I"⟩) ∈ lw_all := lw_g (lw_at lw_ms 42 rfl) rfl
theorem qs43 : (Cond.selects "RumourBedsModel" ⟨"RumourBedsModel", "grows", "(I)I"⟩ ⟨"RumourBedsModel", "grows", "(I)I"⟩) ∈ lw_all := lw_g (lw_at lw_ms 43 rfl) rfl
theorem qs44 : (Cond.selects "RumourBedsModel" ⟨"RumourBedsModel", "isTaken", "(II)Z"⟩ ⟨"RumourBedsModel", "isTaken", "(II)Z"⟩) ∈ lw_all := lw_g (lw_at lw_ms 44 rfl) rfl
theorem qs45 : (Cond.selects "RumourBedsModel" ⟨"RumourBedsModel", "isFree", "(I)Z"⟩ ⟨"RumourBedsModel", "isFree", "(I)Z"⟩) ∈ lw_all := lw_g (lw_at lw_ms 45 rfl) rfl
theorem qs46 : (Cond.selects "RumourBedsModel" ⟨"RumourBedsModel", "isTrue", "(I)Z"⟩ ⟨"RumourBedsModel", "isTrue", "(I)Z"⟩) ∈ lw_all := lw_g (lw_at lw_ms 46 rfl) rfl
theorem qs47 : (Cond.selects "RumourBedsModel" ⟨"RumourBedsModel", "hostOf", "(I)I"⟩ ⟨"RumourBedsModel", "hostOf", "(I)I"⟩) ∈ lw_all := lw_g (lw_at lw_ms 47 rfl) rfl
theorem qs48 : (Cond.selects "RumourBedsModel" ⟨"RumourBedsModel", "isImproved", "(II)V"⟩ ⟨"RumourBedsModel", "isImproved", "(II)V"⟩) ∈ lw_all := lw_g (lw_at lw_ms 48 rfl) rfl
theorem qs49 : (Cond.selects "RumourBedsModel" ⟨"RumourBedsModel", "becomesTrue", "(I)I"⟩ ⟨"RumourBedsModel", "becomesTrue", "(I)I"⟩) ∈ lw_all := lw_g (lw_at lw_ms 49 rfl) rfl
theorem qs50 : (Cond.selects "RumourBedsModel" ⟨"RumourBedsModel", "daysGo", "(I)V"⟩ ⟨"RumourBedsModel", "daysGo", "(I)V"⟩) ∈ lw_all := lw_g (lw_at lw_ms 50 rfl) rfl
theorem qs51 : (Cond.selects "RumourBedsModel" ⟨"RumourBedsModel", "day", "()V"⟩ ⟨"RumourBedsModel", "day", "()V"⟩) ∈ lw_all := lw_g (lw_at lw_ms 51 rfl) rfl
theorem qs52 : (Cond.selects "RumourBedsModel" ⟨"RumourBedsModel", "feeds", "(I)V"⟩ ⟨"RumourBedsModel", "feeds", "(I)V"⟩) ∈ lw_all := lw_g (lw_at lw_ms 52 rfl) rfl
theorem qs53 : (Cond.selects "RumourBedsModel" ⟨"RumourBedsModel", "makesThird", "(I)V"⟩ ⟨"RumourBedsModel", "makesThird", "(I)V"⟩) ∈ lw_all := lw_g (lw_at lw_ms 53 rfl) rfl
theorem qs54 : (Cond.selects "RumourBedsModel" ⟨"RumourBedsModel", "lodgersOf", "(II)I"⟩ ⟨"RumourBedsModel", "lodgersOf", "(II)I"⟩) ∈ lw_all := lw_g (lw_at lw_ms 54 rfl) rfl
theorem qs55 : (Cond.selects "RumourBedsModel" ⟨"RumourBedsModel", "isOnRoad", "(I)Z"⟩ ⟨"RumourBedsModel", "isOnRoad", "(I)Z"⟩) ∈ lw_all := lw_g (lw_at lw_ms 55 rfl) rfl
theorem qs56 : (Cond.selects "RumourBedsModel" ⟨"RumourBedsModel", "bulks", "()I"⟩ ⟨"RumourBedsModel", "bulks", "()I"⟩) ∈ lw_all := lw_g (lw_at lw_ms 56 rfl) rfl
theorem qs57 : (Cond.selects "RumourBedsModel" ⟨"RumourBedsModel", "larders", "()I"⟩ ⟨"RumourBedsModel", "larders", "()I"⟩) ∈ lw_all := lw_g (lw_at lw_ms 57 rfl) rfl
theorem qs58 : (Cond.selects "RumourBedsModel" ⟨"RumourBedsModel", "freeBeds", "()I"⟩ ⟨"RumourBedsModel", "freeBeds", "()I"⟩) ∈ lw_all := lw_g (lw_at lw_ms 58 rfl) rfl
theorem qs59 : (Cond.selects "RumourBedsModel" ⟨"RumourBedsModel", "eaten", "()I"⟩ ⟨"RumourBedsModel", "eaten", "()I"⟩) ∈ lw_all := lw_g (lw_at lw_ms 59 rfl) rfl
theorem qs60 : (Cond.selects "RumourBedsModel" ⟨"RumourBedsModel", "behind", "(II)I"⟩ ⟨"RumourBedsModel", "behind", "(II)I"⟩) ∈ lw_all := lw_g (lw_at lw_ms 60 rfl) rfl
theorem qs61 : (Cond.selects "RumourBedsModel" ⟨"RumourBedsModel", "laysAside", "()V"⟩ ⟨"RumourBedsModel", "laysAside", "()V"⟩) ∈ lw_all := lw_g (lw_at lw_ms 61 rfl) rfl
theorem qs62 : (Cond.selects "RumourBedsModel" ⟨"RumourBedsModel", "takesBack", "(I)I"⟩ ⟨"RumourBedsModel", "takesBack", "(I)I"⟩) ∈ lw_all := lw_g (lw_at lw_ms 62 rfl) rfl
theorem qs63 : (Cond.selects "RumourBedsModel" ⟨"RumourBedsModel", "firstAs", "(II)I"⟩ ⟨"RumourBedsModel", "firstAs", "(II)I"⟩) ∈ lw_all := lw_g (lw_at lw_ms 63 rfl) rfl
theorem qs64 : (Cond.selects "RumourBedsModel" ⟨"RumourBedsModel", "wrongLodger", "(I)I"⟩ ⟨"RumourBedsModel", "wrongLodger", "(I)I"⟩) ∈ lw_all := lw_g (lw_at lw_ms 64 rfl) rfl
theorem qs65 : (Cond.selects "RumourBedsModel" ⟨"RumourBedsModel", "saves", "()V"⟩ ⟨"RumourBedsModel", "saves", "()V"⟩) ∈ lw_all := lw_g (lw_at lw_ms 65 rfl) rfl
theorem qs66 : (Cond.selects "RumourBedsModel" ⟨"RumourBedsModel", "token", "()V"⟩ ⟨"RumourBedsModel", "token", "()V"⟩) ∈ lw_all := lw_g (lw_at lw_ms 66 rfl) rfl
theorem qs67 : (Cond.selects "RumourBedsModel" ⟨"RumourBedsModel", "byteAt", "(I)I"⟩ ⟨"RumourBedsModel", "byteAt", "(I)I"⟩) ∈ lw_all := lw_g (lw_at lw_ms 67 rfl) rfl
theorem qs68 : (Cond.selects "RumourBedsModel" ⟨"RumourBedsModel", "item", "()V"⟩ ⟨"RumourBedsModel", "item", "()V"⟩) ∈ lw_all := lw_g (lw_at lw_ms 68 rfl) rfl
theorem qs69 : (Cond.selects "RumourBedsModel" ⟨"RumourBedsModel", "kindHere", "()I"⟩ ⟨"RumourBedsModel", "kindHere", "()I"⟩) ∈ lw_all := lw_g (lw_at lw_ms 69 rfl) rfl
theorem qs70 : (Cond.selects "RumourBedsModel" ⟨"RumourBedsModel", "word", "()J"⟩ ⟨"RumourBedsModel", "word", "()J"⟩) ∈ lw_all := lw_g (lw_at lw_ms 70 rfl) rfl
theorem qs71 : (Cond.selects "RumourBedsModel" ⟨"RumourBedsModel", "rumourItem", "(I)V"⟩ ⟨"RumourBedsModel", "rumourItem", "(I)V"⟩) ∈ lw_all := lw_g (lw_at lw_ms 71 rfl) rfl
theorem qs72 : (Cond.selects "RumourBedsModel" ⟨"RumourBedsModel", "must", "(Z)V"⟩ ⟨"RumourBedsModel", "must", "(Z)V"⟩) ∈ lw_all := lw_g (lw_at lw_ms 72 rfl) rfl
theorem qs73 : (Cond.selects "RumourBedsModel" ⟨"RumourBedsModel", "number", "(II)V"⟩ ⟨"RumourBedsModel", "number", "(II)V"⟩) ∈ lw_all := lw_g (lw_at lw_ms 73 rfl) rfl
theorem qs74 : (Cond.selects "RumourBedsModel" ⟨"RumourBedsModel", "partItem", "(JII)V"⟩ ⟨"RumourBedsModel", "partItem", "(JII)V"⟩) ∈ lw_all := lw_g (lw_at lw_ms 74 rfl) rfl
theorem qs75 : (Cond.selects "RumourBedsModel" ⟨"RumourBedsModel", "peeked", "()I"⟩ ⟨"RumourBedsModel", "peeked", "()I"⟩) ∈ lw_all := lw_g (lw_at lw_ms 75 rfl) rfl
theorem qs76 : (Cond.selects "RumourBedsModel" ⟨"RumourBedsModel", "houseItem", "()V"⟩ ⟨"RumourBedsModel", "houseItem", "()V"⟩) ∈ lw_all := lw_g (lw_at lw_ms 76 rfl) rfl
theorem qs77 : (Cond.selects "RumourBedsModel" ⟨"RumourBedsModel", "putsBack", "()V"⟩ ⟨"RumourBedsModel", "putsBack", "()V"⟩) ∈ lw_all := lw_g (lw_at lw_ms 77 rfl) rfl
theorem qs78 : (Cond.selects "RumourBedsModel" ⟨"RumourBedsModel", "wrongSheet", "(I)I"⟩ ⟨"RumourBedsModel", "wrongSheet", "(I)I"⟩) ∈ lw_all := lw_g (lw_at lw_ms 78 rfl) rfl
theorem qs79 : (Cond.selects "RumourBedsModel" ⟨"RumourBedsModel", "wrongBook", "(II)I"⟩ ⟨"RumourBedsModel", "wrongBook", "(II)I"⟩) ∈ lw_all := lw_g (lw_at lw_ms 79 rfl) rfl
theorem qs80 : (Cond.selects "RumourBedsModel" ⟨"RumourBedsModel", "isBook", "(II)Z"⟩ ⟨"RumourBedsModel", "isBook", "(II)Z"⟩) ∈ lw_all := lw_g (lw_at lw_ms 80 rfl) rfl
theorem qs81 : (Cond.selects "RumourBedsModel" ⟨"RumourBedsModel", "bedsAll", "()I"⟩ ⟨"RumourBedsModel", "bedsAll", "()I"⟩) ∈ lw_all := lw_g (lw_at lw_ms 81 rfl) rfl
