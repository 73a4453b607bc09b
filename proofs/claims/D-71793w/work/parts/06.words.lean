theorem q67 : (Jvm.Cond.initialized "BookPairsLaw") ∈ lw_all := lw_g (lw_at lw_m1 0 rfl) rfl
set_option maxRecDepth 100000
theorem q107 : (Jvm.Cond.classLink "BookPairsLaw" (7 : Nat) "BookPairs") ∈ lw_all := lw_g (lw_at lw_m1 40 rfl) rfl
theorem q109 : (Jvm.Cond.methodLink "BookPairsLaw" (9 : Nat) ({ cls := "BookPairs", name := "<init>", desc := "()V" } : Jvm.MethodName)) ∈ lw_all := lw_g (lw_at lw_m1 42 rfl) rfl
theorem q355 : (Jvm.Cond.methodLink "BookPairsLaw" (49 : Nat) ({ cls := "BookPairs", name := "cost", desc := "(III)I" } : Jvm.MethodName)) ∈ lw_all := lw_g (lw_at lw_m2 48 rfl) rfl
theorem q370 : (Jvm.Cond.methodLink "BookPairsLaw" (18 : Nat) ({ cls := "BookPairs", name := "ofLeft", desc := "(II)I" } : Jvm.MethodName)) ∈ lw_all := lw_g (lw_at lw_m2 63 rfl) rfl
theorem q561 : (Jvm.Cond.methodLink "BookPairsLaw" (23 : Nat) ({ cls := "BookPairs", name := "ofRight", desc := "(II)I" } : Jvm.MethodName)) ∈ lw_all := lw_g (lw_at lw_m3 14 rfl) rfl
theorem q588 : (Jvm.Cond.methodLink "BookPairsLaw" (27 : Nat) ({ cls := "BookPairs", name := "letters", desc := "(III)I" } : Jvm.MethodName)) ∈ lw_all := lw_g (lw_at lw_m3 41 rfl) rfl
theorem q589 : (Jvm.Cond.methodLink "BookPairsLaw" (32 : Nat) ({ cls := "BookPairs", name := "price", desc := "(II)I" } : Jvm.MethodName)) ∈ lw_all := lw_g (lw_at lw_m3 42 rfl) rfl
theorem q590 : (Jvm.Cond.methodLink "BookPairsLaw" (36 : Nat) ({ cls := "BookPairs", name := "move", desc := "(III)I" } : Jvm.MethodName)) ∈ lw_all := lw_g (lw_at lw_m3 43 rfl) rfl
theorem q598 : (Jvm.Cond.methodLink "BookPairsLaw" (40 : Nat) ({ cls := "BookPairs", name := "best", desc := "(I)I" } : Jvm.MethodName)) ∈ lw_all := lw_g (lw_at lw_m3 51 rfl) rfl
theorem q626 : (Jvm.Cond.methodLink "BookPairsLaw" (45 : Nat) ({ cls := "BookPairs", name := "ofPair", desc := "(II)I" } : Jvm.MethodName)) ∈ lw_all := lw_g (lw_at lw_m3 79 rfl) rfl
theorem q644 : (Jvm.Cond.methodLink "BookPairsLaw" (58 : Nat) ({ cls := "BookPairs", name := "by", desc := "(I)I" } : Jvm.MethodName)) ∈ lw_all := lw_g (lw_at lw_m3 97 rfl) rfl
theorem q648 : (Jvm.Cond.methodLink "BookPairsLaw" (62 : Nat) ({ cls := "BookPairs", name := "enough", desc := "()I" } : Jvm.MethodName)) ∈ lw_all := lw_g (lw_at lw_m3 101 rfl) rfl
theorem q652 : (Jvm.Cond.methodLink "BookPairsLaw" (67 : Nat) ({ cls := "BookPairs", name := "reading", desc := "(II)I" } : Jvm.MethodName)) ∈ lw_all := lw_g (lw_at lw_m3 105 rfl) rfl
theorem q747 : (Jvm.Cond.methodLink "BookPairsLaw" (71 : Nat) ({ cls := "BookPairs", name := "back", desc := "(I)I" } : Jvm.MethodName)) ∈ lw_all := lw_g (lw_at lw_m3 200 rfl) rfl
theorem q765 : (Jvm.Cond.methodLink "BookPairsLaw" (75 : Nat) ({ cls := "BookPairs", name := "kinds", desc := "(I)I" } : Jvm.MethodName)) ∈ lw_all := lw_g (lw_at lw_m3 218 rfl) rfl
theorem q834 : (Jvm.Cond.methodLink "BookPairsLaw" (79 : Nat) ({ cls := "BookPairs", name := "letterings", desc := "(I)I" } : Jvm.MethodName)) ∈ lw_all := lw_g (lw_at lw_m4 47 rfl) rfl
theorem q838 : (Jvm.Cond.methodLink "BookPairsLaw" (83 : Nat) ({ cls := "BookPairs", name := "odds", desc := "(II)J" } : Jvm.MethodName)) ∈ lw_all := lw_g (lw_at lw_m4 51 rfl) rfl
theorem q846 : (Jvm.Cond.methodLink "BookPairsLaw" (88 : Nat) ({ cls := "BookPairs", name := "sheet", desc := "(III)I" } : Jvm.MethodName)) ∈ lw_all := lw_g (lw_at lw_m4 59 rfl) rfl
theorem q962 : (Jvm.Cond.methodLink "BookPairsLaw" (92 : Nat) ({ cls := "BookPairs", name := "lose", desc := "(I)I" } : Jvm.MethodName)) ∈ lw_all := lw_g (lw_at lw_m4 175 rfl) rfl
theorem q966 : (Jvm.Cond.methodLink "BookPairsLaw" (96 : Nat) ({ cls := "BookPairs", name := "put", desc := "(III)I" } : Jvm.MethodName)) ∈ lw_all := lw_g (lw_at lw_m4 179 rfl) rfl
theorem q1020 : (Jvm.Cond.methodLink "BookPairsLaw" (100 : Nat) ({ cls := "BookPairs", name := "cell", desc := "(III)J" } : Jvm.MethodName)) ∈ lw_all := lw_g (lw_at lw_m4 233 rfl) rfl
theorem q1049 : (Jvm.Cond.methodLink "BookPairsLaw" (13 : Nat) ({ cls := "BookPairs", name := "books", desc := "(IIII)I" } : Jvm.MethodName)) ∈ lw_all := lw_g (lw_at lw_m5 22 rfl) rfl
theorem q1211 : (Jvm.Cond.methodLink "BookPairsLaw" (53 : Nat) ({ cls := "BookPairs", name := "day", desc := "(IIIII)I" } : Jvm.MethodName)) ∈ lw_all := lw_g (lw_at lw_m5 184 rfl) rfl
theorem q1239 : (Jvm.Cond.methodLink "BookPairsLaw" (105 : Nat) ({ cls := "BookPairs", name := "copy", desc := "(IIIII)I" } : Jvm.MethodName)) ∈ lw_all := lw_g (lw_at lw_m5 212 rfl) rfl
theorem q1272 : (Jvm.Cond.methodLink "BookPairsLaw" (109 : Nat) ({ cls := "BookPairs", name := "tell", desc := "(I)I" } : Jvm.MethodName)) ∈ lw_all := lw_g (lw_at lw_m6 5 rfl) rfl
theorem q1306 : (Jvm.Cond.methodLink "BookPairsLaw" (113 : Nat) ({ cls := "BookPairs", name := "read", desc := "(I)I" } : Jvm.MethodName)) ∈ lw_all := lw_g (lw_at lw_m6 39 rfl) rfl
theorem q1352 : (Jvm.Cond.methodLink "BookPairsLaw" (117 : Nat) ({ cls := "BookPairs", name := "as", desc := "(II)I" } : Jvm.MethodName)) ∈ lw_all := lw_g (lw_at lw_m6 85 rfl) rfl
theorem q1376 : (Jvm.Cond.methodLink "BookPairsLaw" (121 : Nat) ({ cls := "BookPairs", name := "trace", desc := "()I" } : Jvm.MethodName)) ∈ lw_all := lw_g (lw_at lw_m6 109 rfl) rfl
theorem q1380 : (Jvm.Cond.methodLink "BookPairsLaw" (125 : Nat) ({ cls := "BookPairs", name := "fault", desc := "()I" } : Jvm.MethodName)) ∈ lw_all := lw_g (lw_at lw_m6 113 rfl) rfl
theorem q1384 : (Jvm.Cond.methodLink "BookPairsLaw" (129 : Nat) ({ cls := "BookPairs", name := "many", desc := "(I)I" } : Jvm.MethodName)) ∈ lw_all := lw_g (lw_at lw_m6 117 rfl) rfl
theorem q1388 : (Jvm.Cond.classLink "BookPairsLaw" (10 : Nat) "BookPairsModel") ∈ lw_all := lw_g (lw_at lw_m6 121 rfl) rfl
theorem q1390 : (Jvm.Cond.methodLink "BookPairsLaw" (12 : Nat) ({ cls := "BookPairsModel", name := "<init>", desc := "()V" } : Jvm.MethodName)) ∈ lw_all := lw_g (lw_at lw_m6 123 rfl) rfl
theorem q1491 : (Jvm.Cond.methodLink "BookPairsLaw" (17 : Nat) ({ cls := "BookPairsModel", name := "books", desc := "(IIII)I" } : Jvm.MethodName)) ∈ lw_all := lw_g (lw_at lw_m6 224 rfl) rfl
theorem q1528 : (Jvm.Cond.methodLink "BookPairsLaw" (22 : Nat) ({ cls := "BookPairsModel", name := "ofLeft", desc := "(II)I" } : Jvm.MethodName)) ∈ lw_all := lw_g (lw_at lw_m7 21 rfl) rfl
theorem q1582 : (Jvm.Cond.methodLink "BookPairsLaw" (26 : Nat) ({ cls := "BookPairsModel", name := "ofRight", desc := "(II)I" } : Jvm.MethodName)) ∈ lw_all := lw_g (lw_at lw_m7 75 rfl) rfl
theorem q1590 : (Jvm.Cond.methodLink "BookPairsLaw" (31 : Nat) ({ cls := "BookPairsModel", name := "letters", desc := "(III)I" } : Jvm.MethodName)) ∈ lw_all := lw_g (lw_at lw_m7 83 rfl) rfl
theorem q1594 : (Jvm.Cond.methodLink "BookPairsLaw" (35 : Nat) ({ cls := "BookPairsModel", name := "price", desc := "(II)I" } : Jvm.MethodName)) ∈ lw_all := lw_g (lw_at lw_m7 87 rfl) rfl
theorem q1598 : (Jvm.Cond.methodLink "BookPairsLaw" (39 : Nat) ({ cls := "BookPairsModel", name := "move", desc := "(III)I" } : Jvm.MethodName)) ∈ lw_all := lw_g (lw_at lw_m7 91 rfl) rfl
theorem q1606 : (Jvm.Cond.methodLink "BookPairsLaw" (44 : Nat) ({ cls := "BookPairsModel", name := "best", desc := "(I)I" } : Jvm.MethodName)) ∈ lw_all := lw_g (lw_at lw_m7 99 rfl) rfl
theorem q1614 : (Jvm.Cond.methodLink "BookPairsLaw" (48 : Nat) ({ cls := "BookPairsModel", name := "ofPair", desc := "(II)I" } : Jvm.MethodName)) ∈ lw_all := lw_g (lw_at lw_m7 107 rfl) rfl
theorem q1618 : (Jvm.Cond.methodLink "BookPairsLaw" (52 : Nat) ({ cls := "BookPairsModel", name := "cost", desc := "(III)I" } : Jvm.MethodName)) ∈ lw_all := lw_g (lw_at lw_m7 111 rfl) rfl
theorem q1622 : (Jvm.Cond.methodLink "BookPairsLaw" (57 : Nat) ({ cls := "BookPairsModel", name := "day", desc := "(IIIII)I" } : Jvm.MethodName)) ∈ lw_all := lw_g (lw_at lw_m7 115 rfl) rfl
theorem q1649 : (Jvm.Cond.methodLink "BookPairsLaw" (61 : Nat) ({ cls := "BookPairsModel", name := "by", desc := "(I)I" } : Jvm.MethodName)) ∈ lw_all := lw_g (lw_at lw_m7 142 rfl) rfl
theorem q1653 : (Jvm.Cond.methodLink "BookPairsLaw" (66 : Nat) ({ cls := "BookPairsModel", name := "enough", desc := "()I" } : Jvm.MethodName)) ∈ lw_all := lw_g (lw_at lw_m7 146 rfl) rfl
theorem q1657 : (Jvm.Cond.methodLink "BookPairsLaw" (70 : Nat) ({ cls := "BookPairsModel", name := "reading", desc := "(II)I" } : Jvm.MethodName)) ∈ lw_all := lw_g (lw_at lw_m7 150 rfl) rfl
theorem q1661 : (Jvm.Cond.methodLink "BookPairsLaw" (74 : Nat) ({ cls := "BookPairsModel", name := "back", desc := "(I)I" } : Jvm.MethodName)) ∈ lw_all := lw_g (lw_at lw_m7 154 rfl) rfl
theorem q1665 : (Jvm.Cond.methodLink "BookPairsLaw" (78 : Nat) ({ cls := "BookPairsModel", name := "kinds", desc := "(I)I" } : Jvm.MethodName)) ∈ lw_all := lw_g (lw_at lw_m7 158 rfl) rfl
theorem q1673 : (Jvm.Cond.methodLink "BookPairsLaw" (82 : Nat) ({ cls := "BookPairsModel", name := "letterings", desc := "(I)I" } : Jvm.MethodName)) ∈ lw_all := lw_g (lw_at lw_m7 166 rfl) rfl
theorem q1677 : (Jvm.Cond.methodLink "BookPairsLaw" (87 : Nat) ({ cls := "BookPairsModel", name := "odds", desc := "(II)J" } : Jvm.MethodName)) ∈ lw_all := lw_g (lw_at lw_m7 170 rfl) rfl
theorem q1685 : (Jvm.Cond.methodLink "BookPairsLaw" (91 : Nat) ({ cls := "BookPairsModel", name := "sheet", desc := "(III)I" } : Jvm.MethodName)) ∈ lw_all := lw_g (lw_at lw_m7 178 rfl) rfl
theorem q1689 : (Jvm.Cond.methodLink "BookPairsLaw" (95 : Nat) ({ cls := "BookPairsModel", name := "lose", desc := "(I)I" } : Jvm.MethodName)) ∈ lw_all := lw_g (lw_at lw_m7 182 rfl) rfl
theorem q1693 : (Jvm.Cond.methodLink "BookPairsLaw" (99 : Nat) ({ cls := "BookPairsModel", name := "put", desc := "(III)I" } : Jvm.MethodName)) ∈ lw_all := lw_g (lw_at lw_m7 186 rfl) rfl
theorem q1697 : (Jvm.Cond.methodLink "BookPairsLaw" (104 : Nat) ({ cls := "BookPairsModel", name := "cell", desc := "(III)J" } : Jvm.MethodName)) ∈ lw_all := lw_g (lw_at lw_m7 190 rfl) rfl
theorem q1705 : (Jvm.Cond.methodLink "BookPairsLaw" (108 : Nat) ({ cls := "BookPairsModel", name := "copy", desc := "(IIIII)I" } : Jvm.MethodName)) ∈ lw_all := lw_g (lw_at lw_m7 198 rfl) rfl
theorem q1709 : (Jvm.Cond.methodLink "BookPairsLaw" (112 : Nat) ({ cls := "BookPairsModel", name := "tell", desc := "(I)I" } : Jvm.MethodName)) ∈ lw_all := lw_g (lw_at lw_m7 202 rfl) rfl
theorem q1717 : (Jvm.Cond.methodLink "BookPairsLaw" (116 : Nat) ({ cls := "BookPairsModel", name := "read", desc := "(I)I" } : Jvm.MethodName)) ∈ lw_all := lw_g (lw_at lw_m7 210 rfl) rfl
theorem q1721 : (Jvm.Cond.methodLink "BookPairsLaw" (120 : Nat) ({ cls := "BookPairsModel", name := "as", desc := "(II)I" } : Jvm.MethodName)) ∈ lw_all := lw_g (lw_at lw_m7 214 rfl) rfl
theorem q1725 : (Jvm.Cond.methodLink "BookPairsLaw" (124 : Nat) ({ cls := "BookPairsModel", name := "trace", desc := "()I" } : Jvm.MethodName)) ∈ lw_all := lw_g (lw_at lw_m7 218 rfl) rfl
theorem q1729 : (Jvm.Cond.methodLink "BookPairsLaw" (128 : Nat) ({ cls := "BookPairsModel", name := "fault", desc := "()I" } : Jvm.MethodName)) ∈ lw_all := lw_g (lw_at lw_m7 222 rfl) rfl
theorem q1733 : (Jvm.Cond.methodLink "BookPairsLaw" (132 : Nat) ({ cls := "BookPairsModel", name := "many", desc := "(I)I" } : Jvm.MethodName)) ∈ lw_all := lw_g (lw_at lw_m7 226 rfl) rfl

theorem q368 : (Jvm.Cond.interfaceMethod "BookPairs$Cost" "BookPairs$Cost" "of" "(II)I") ∈ lw_tbl := lw_at lw_m2 61 rfl
set_option maxRecDepth 100000
theorem q369 : (Jvm.Cond.declares ({ cls := "BookPairs$Cost", name := "of", desc := "(II)I" } : Jvm.MethodName)) ∈ lw_tbl := lw_at lw_m2 62 rfl

theorem q1236 : (Jvm.Cond.interfaceMethod "BookPairs$Deed" "BookPairs$Deed" "done" "(II)Z") ∈ lw_tbl := lw_at lw_m5 209 rfl
set_option maxRecDepth 100000
theorem q1237 : (Jvm.Cond.declares ({ cls := "BookPairs$Deed", name := "done", desc := "(II)Z" } : Jvm.MethodName)) ∈ lw_tbl := lw_at lw_m5 210 rfl

theorem q1203 : (Jvm.Cond.interfaceMethod "BookPairs$Reader" "BookPairs$Reader" "read" "([I)I") ∈ lw_tbl := lw_at lw_m5 176 rfl
set_option maxRecDepth 100000
theorem q1204 : (Jvm.Cond.declares ({ cls := "BookPairs$Reader", name := "read", desc := "([I)I" } : Jvm.MethodName)) ∈ lw_tbl := lw_at lw_m5 177 rfl

theorem q1787 : (Jvm.Cond.castable "[B" "java/lang/Object") ∈ lw_tbl := lw_at lw_m8 40 rfl
set_option maxRecDepth 100000

theorem q1785 : (Jvm.Cond.castable "[I" "java/lang/Object") ∈ lw_tbl := lw_at lw_m8 38 rfl
set_option maxRecDepth 100000

theorem q1783 : (Jvm.Cond.castable "[LBookPairs$Doing;" "java/lang/Object") ∈ lw_tbl := lw_at lw_m8 36 rfl
set_option maxRecDepth 100000

theorem q1784 : (Jvm.Cond.castable "[LBookPairs$Sheet;" "java/lang/Object") ∈ lw_tbl := lw_at lw_m8 37 rfl
set_option maxRecDepth 100000

theorem q1782 : (Jvm.Cond.castable "[LBookPairs$Sort;" "java/lang/Object") ∈ lw_tbl := lw_at lw_m8 35 rfl
set_option maxRecDepth 100000

theorem q1779 : (Jvm.Cond.sameMethod "[Ljava/lang/Object;" "java/lang/Object" "getClass" "()Ljava/lang/Class;") ∈ lw_all := lw_g (lw_at lw_m8 32 rfl) rfl
set_option maxRecDepth 100000
theorem q1780 : (Jvm.Cond.selects "[Ljava/lang/Object;" ({ cls := "java/lang/Object", name := "getClass", desc := "()Ljava/lang/Class;" } : Jvm.MethodName) ({ cls := "java/lang/Object", name := "getClass", desc := "()Ljava/lang/Class;" } : Jvm.MethodName)) ∈ lw_all := lw_g (lw_at lw_m8 33 rfl) rfl
theorem q1786 : (Jvm.Cond.castable "[Ljava/lang/Object;" "java/lang/Object") ∈ lw_tbl := lw_at lw_m8 39 rfl

theorem q1788 : (Jvm.Cond.castable "[S" "java/lang/Object") ∈ lw_tbl := lw_at lw_m8 41 rfl
set_option maxRecDepth 100000

theorem q85 : (Jvm.Cond.initialized "java/lang/System") ∈ lw_all := lw_g (lw_at lw_m1 18 rfl) rfl
set_option maxRecDepth 100000
theorem q743 : (Jvm.Cond.static ({ cls := "java/lang/System", name := "arraycopy", desc := "(Ljava/lang/Object;ILjava/lang/Object;II)V" } : Jvm.MethodName)) ∈ lw_all := lw_g (lw_at lw_m3 196 rfl) rfl
theorem q744 : (Jvm.Cond.native ({ cls := "java/lang/System", name := "arraycopy", desc := "(Ljava/lang/Object;ILjava/lang/Object;II)V" } : Jvm.MethodName)) ∈ lw_all := lw_g (lw_at lw_m3 197 rfl) rfl

theorem q1100 : (Jvm.Cond.interfaceMethod "java/util/Collection" "java/util/Collection" "toArray" "()[Ljava/lang/Object;") ∈ lw_tbl := lw_at lw_m5 73 rfl
set_option maxRecDepth 100000
theorem q1101 : (Jvm.Cond.declares ({ cls := "java/util/Collection", name := "toArray", desc := "()[Ljava/lang/Object;" } : Jvm.MethodName)) ∈ lw_tbl := lw_at lw_m5 74 rfl

theorem q482 : (Jvm.Cond.interfaceMethod "java/util/Iterator" "java/util/Iterator" "hasNext" "()Z") ∈ lw_tbl := lw_at lw_m2 175 rfl
set_option maxRecDepth 100000
theorem q483 : (Jvm.Cond.declares ({ cls := "java/util/Iterator", name := "hasNext", desc := "()Z" } : Jvm.MethodName)) ∈ lw_tbl := lw_at lw_m2 176 rfl
theorem q494 : (Jvm.Cond.interfaceMethod "java/util/Iterator" "java/util/Iterator" "next" "()Ljava/lang/Object;") ∈ lw_tbl := lw_at lw_m2 187 rfl
theorem q495 : (Jvm.Cond.declares ({ cls := "java/util/Iterator", name := "next", desc := "()Ljava/lang/Object;" } : Jvm.MethodName)) ∈ lw_tbl := lw_at lw_m2 188 rfl

theorem q157 : (Jvm.Cond.interfaceMethod "java/util/List" "java/util/List" "get" "(I)Ljava/lang/Object;") ∈ lw_tbl := lw_at lw_m1 90 rfl
set_option maxRecDepth 100000
theorem q158 : (Jvm.Cond.declares ({ cls := "java/util/List", name := "get", desc := "(I)Ljava/lang/Object;" } : Jvm.MethodName)) ∈ lw_tbl := lw_at lw_m1 91 rfl
theorem q243 : (Jvm.Cond.interfaceMethod "java/util/List" "java/util/List" "size" "()I") ∈ lw_tbl := lw_at lw_m1 176 rfl
theorem q244 : (Jvm.Cond.declares ({ cls := "java/util/List", name := "size", desc := "()I" } : Jvm.MethodName)) ∈ lw_tbl := lw_at lw_m1 177 rfl
theorem q281 : (Jvm.Cond.interfaceMethod "java/util/List" "java/util/List" "isEmpty" "()Z") ∈ lw_tbl := lw_at lw_m1 214 rfl
theorem q282 : (Jvm.Cond.declares ({ cls := "java/util/List", name := "isEmpty", desc := "()Z" } : Jvm.MethodName)) ∈ lw_tbl := lw_at lw_m1 215 rfl
theorem q674 : (Jvm.Cond.interfaceMethod "java/util/List" "java/util/List" "add" "(Ljava/lang/Object;)Z") ∈ lw_tbl := lw_at lw_m3 127 rfl
theorem q675 : (Jvm.Cond.declares ({ cls := "java/util/List", name := "add", desc := "(Ljava/lang/Object;)Z" } : Jvm.MethodName)) ∈ lw_tbl := lw_at lw_m3 128 rfl
theorem q753 : (Jvm.Cond.interfaceMethod "java/util/List" "java/util/List" "remove" "(I)Ljava/lang/Object;") ∈ lw_tbl := lw_at lw_m3 206 rfl
theorem q754 : (Jvm.Cond.declares ({ cls := "java/util/List", name := "remove", desc := "(I)Ljava/lang/Object;" } : Jvm.MethodName)) ∈ lw_tbl := lw_at lw_m3 207 rfl
theorem q823 : (Jvm.Cond.interfaceMethod "java/util/List" "java/util/List" "set" "(ILjava/lang/Object;)Ljava/lang/Object;") ∈ lw_tbl := lw_at lw_m4 36 rfl
theorem q824 : (Jvm.Cond.declares ({ cls := "java/util/List", name := "set", desc := "(ILjava/lang/Object;)Ljava/lang/Object;" } : Jvm.MethodName)) ∈ lw_tbl := lw_at lw_m4 37 rfl
theorem q1082 : (Jvm.Cond.interfaceMethod "java/util/List" "java/util/List" "clear" "()V") ∈ lw_tbl := lw_at lw_m5 55 rfl
theorem q1083 : (Jvm.Cond.declares ({ cls := "java/util/List", name := "clear", desc := "()V" } : Jvm.MethodName)) ∈ lw_tbl := lw_at lw_m5 56 rfl
theorem q1091 : (Jvm.Cond.interfaceMethod "java/util/List" "java/util/List" "addAll" "(Ljava/util/Collection;)Z") ∈ lw_tbl := lw_at lw_m5 64 rfl
theorem q1092 : (Jvm.Cond.declares ({ cls := "java/util/List", name := "addAll", desc := "(Ljava/util/Collection;)Z" } : Jvm.MethodName)) ∈ lw_tbl := lw_at lw_m5 65 rfl

theorem q116 : (Jvm.Cond.arrayOver (Jvm.ClassFile.FieldType.object "BookPairs$Sort")) ∈ lw_tbl := lw_at lw_m1 49 rfl
set_option maxRecDepth 100000
theorem q118 : (Jvm.Cond.arrayOver (Jvm.ClassFile.FieldType.object "BookPairs$Doing")) ∈ lw_tbl := lw_at lw_m1 51 rfl
theorem q146 : (Jvm.Cond.arrayOver (Jvm.ClassFile.FieldType.object "BookPairs$Sheet")) ∈ lw_tbl := lw_at lw_m1 79 rfl
theorem q213 : (Jvm.Cond.arrayClass Jvm.ClassFile.FieldType.int) ∈ lw_all := lw_g (lw_at lw_m1 146 rfl) rfl
theorem q739 : (Jvm.Cond.arrayOver (Jvm.ClassFile.FieldType.object "java/lang/Object")) ∈ lw_tbl := lw_at lw_m3 192 rfl
theorem q932 : (Jvm.Cond.arrayClass Jvm.ClassFile.FieldType.byte) ∈ lw_all := lw_g (lw_at lw_m4 145 rfl) rfl
theorem q957 : (Jvm.Cond.arrayClass Jvm.ClassFile.FieldType.short) ∈ lw_all := lw_g (lw_at lw_m4 170 rfl) rfl

