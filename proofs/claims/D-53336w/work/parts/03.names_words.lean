theorem q59 : (Jvm.Cond.initialized "TicketScalesLaw") ∈ lw_all := lw_g (lw_at lw_m1 0 rfl) rfl
set_option maxRecDepth 100000
theorem q92 : (Jvm.Cond.classLink "TicketScalesLaw" (7 : Nat) "TicketScales") ∈ lw_all := lw_g (lw_at lw_m1 33 rfl) rfl
theorem q94 : (Jvm.Cond.methodLink "TicketScalesLaw" (9 : Nat) ({ cls := "TicketScales", name := "<init>", desc := "()V" } : Jvm.MethodName)) ∈ lw_all := lw_g (lw_at lw_m1 35 rfl) rfl
theorem q260 : (Jvm.Cond.methodLink "TicketScalesLaw" (13 : Nat) ({ cls := "TicketScales", name := "setKind", desc := "(III)I" } : Jvm.MethodName)) ∈ lw_all := lw_g (lw_at lw_m1 201 rfl) rfl
theorem q529 : (Jvm.Cond.methodLink "TicketScalesLaw" (18 : Nat) ({ cls := "TicketScales", name := "setScale", desc := "(II)I" } : Jvm.MethodName)) ∈ lw_all := lw_g (lw_at lw_m2 230 rfl) rfl
theorem q541 : (Jvm.Cond.methodLink "TicketScalesLaw" (23 : Nat) ({ cls := "TicketScales", name := "setBias", desc := "(I)I" } : Jvm.MethodName)) ∈ lw_all := lw_g (lw_at lw_m3 2 rfl) rfl
theorem q551 : (Jvm.Cond.methodLink "TicketScalesLaw" (28 : Nat) ({ cls := "TicketScales", name := "setRule", desc := "(I)I" } : Jvm.MethodName)) ∈ lw_all := lw_g (lw_at lw_m3 12 rfl) rfl
theorem q561 : (Jvm.Cond.methodLink "TicketScalesLaw" (32 : Nat) ({ cls := "TicketScales", name := "setFee", desc := "(I)I" } : Jvm.MethodName)) ∈ lw_all := lw_g (lw_at lw_m3 22 rfl) rfl
theorem q571 : (Jvm.Cond.methodLink "TicketScalesLaw" (36 : Nat) ({ cls := "TicketScales", name := "come", desc := "(I)I" } : Jvm.MethodName)) ∈ lw_all := lw_g (lw_at lw_m3 32 rfl) rfl
theorem q592 : (Jvm.Cond.methodLink "TicketScalesLaw" (40 : Nat) ({ cls := "TicketScales", name := "leave", desc := "(I)I" } : Jvm.MethodName)) ∈ lw_all := lw_g (lw_at lw_m3 53 rfl) rfl
theorem q626 : (Jvm.Cond.methodLink "TicketScalesLaw" (44 : Nat) ({ cls := "TicketScales", name := "weigh", desc := "(IIII)I" } : Jvm.MethodName)) ∈ lw_all := lw_g (lw_at lw_m3 87 rfl) rfl
theorem q779 : (Jvm.Cond.methodLink "TicketScalesLaw" (49 : Nat) ({ cls := "TicketScales", name := "claim", desc := "(II)I" } : Jvm.MethodName)) ∈ lw_all := lw_g (lw_at lw_m4 0 rfl) rfl
theorem q798 : (Jvm.Cond.methodLink "TicketScalesLaw" (53 : Nat) ({ cls := "TicketScales", name := "addPrize", desc := "(IIIII)I" } : Jvm.MethodName)) ∈ lw_all := lw_g (lw_at lw_m4 19 rfl) rfl
theorem q810 : (Jvm.Cond.methodLink "TicketScalesLaw" (58 : Nat) ({ cls := "TicketScales", name := "removePrize", desc := "(I)I" } : Jvm.MethodName)) ∈ lw_all := lw_g (lw_at lw_m4 31 rfl) rfl
theorem q824 : (Jvm.Cond.methodLink "TicketScalesLaw" (62 : Nat) ({ cls := "TicketScales", name := "setPrice", desc := "(II)I" } : Jvm.MethodName)) ∈ lw_all := lw_g (lw_at lw_m4 45 rfl) rfl
theorem q834 : (Jvm.Cond.methodLink "TicketScalesLaw" (66 : Nat) ({ cls := "TicketScales", name := "buy", desc := "(III)I" } : Jvm.MethodName)) ∈ lw_all := lw_g (lw_at lw_m4 55 rfl) rfl
theorem q852 : (Jvm.Cond.methodLink "TicketScalesLaw" (70 : Nat) ({ cls := "TicketScales", name := "take", desc := "(I)I" } : Jvm.MethodName)) ∈ lw_all := lw_g (lw_at lw_m4 73 rfl) rfl
theorem q869 : (Jvm.Cond.methodLink "TicketScalesLaw" (74 : Nat) ({ cls := "TicketScales", name := "restore", desc := "(I)I" } : Jvm.MethodName)) ∈ lw_all := lw_g (lw_at lw_m4 90 rfl) rfl
theorem q873 : (Jvm.Cond.methodLink "TicketScalesLaw" (78 : Nat) ({ cls := "TicketScales", name := "undo", desc := "()I" } : Jvm.MethodName)) ∈ lw_all := lw_g (lw_at lw_m4 94 rfl) rfl
theorem q892 : (Jvm.Cond.methodLink "TicketScalesLaw" (83 : Nat) ({ cls := "TicketScales", name := "append", desc := "(I)I" } : Jvm.MethodName)) ∈ lw_all := lw_g (lw_at lw_m4 113 rfl) rfl
theorem q981 : (Jvm.Cond.methodLink "TicketScalesLaw" (87 : Nat) ({ cls := "TicketScales", name := "clearText", desc := "()I" } : Jvm.MethodName)) ∈ lw_all := lw_g (lw_at lw_m4 202 rfl) rfl
theorem q1005 : (Jvm.Cond.methodLink "TicketScalesLaw" (91 : Nat) ({ cls := "TicketScales", name := "run", desc := "()I" } : Jvm.MethodName)) ∈ lw_all := lw_g (lw_at lw_m4 226 rfl) rfl
theorem q1424 : (Jvm.Cond.methodLink "TicketScalesLaw" (95 : Nat) ({ cls := "TicketScales", name := "failure", desc := "(I)I" } : Jvm.MethodName)) ∈ lw_all := lw_g (lw_at lw_m6 165 rfl) rfl
theorem q1429 : (Jvm.Cond.methodLink "TicketScalesLaw" (99 : Nat) ({ cls := "TicketScales", name := "count", desc := "(I)I" } : Jvm.MethodName)) ∈ lw_all := lw_g (lw_at lw_m6 170 rfl) rfl
theorem q1455 : (Jvm.Cond.methodLink "TicketScalesLaw" (103 : Nat) ({ cls := "TicketScales", name := "kind", desc := "(II)I" } : Jvm.MethodName)) ∈ lw_all := lw_g (lw_at lw_m6 196 rfl) rfl
theorem q1462 : (Jvm.Cond.methodLink "TicketScalesLaw" (107 : Nat) ({ cls := "TicketScales", name := "customer", desc := "(II)I" } : Jvm.MethodName)) ∈ lw_all := lw_g (lw_at lw_m6 203 rfl) rfl
theorem q1473 : (Jvm.Cond.methodLink "TicketScalesLaw" (111 : Nat) ({ cls := "TicketScales", name := "prize", desc := "(II)I" } : Jvm.MethodName)) ∈ lw_all := lw_g (lw_at lw_m6 214 rfl) rfl
theorem q1483 : (Jvm.Cond.methodLink "TicketScalesLaw" (115 : Nat) ({ cls := "TicketScales", name := "read", desc := "(I)I" } : Jvm.MethodName)) ∈ lw_all := lw_g (lw_at lw_m6 224 rfl) rfl
theorem q1489 : (Jvm.Cond.methodLink "TicketScalesLaw" (119 : Nat) ({ cls := "TicketScales", name := "allowed", desc := "(III)I" } : Jvm.MethodName)) ∈ lw_all := lw_g (lw_at lw_m6 230 rfl) rfl
theorem q1498 : (Jvm.Cond.methodLink "TicketScalesLaw" (123 : Nat) ({ cls := "TicketScales", name := "guess", desc := "(III)I" } : Jvm.MethodName)) ∈ lw_all := lw_g (lw_at lw_m6 239 rfl) rfl
theorem q1506 : (Jvm.Cond.methodLink "TicketScalesLaw" (127 : Nat) ({ cls := "TicketScales", name := "apartUpTo", desc := "(I)I" } : Jvm.MethodName)) ∈ lw_all := lw_g (lw_at lw_m7 7 rfl) rfl
theorem q1514 : (Jvm.Cond.methodLink "TicketScalesLaw" (131 : Nat) ({ cls := "TicketScales", name := "bestStep", desc := "(II)I" } : Jvm.MethodName)) ∈ lw_all := lw_g (lw_at lw_m7 15 rfl) rfl
theorem q1518 : (Jvm.Cond.methodLink "TicketScalesLaw" (135 : Nat) ({ cls := "TicketScales", name := "mixed", desc := "(IIII)I" } : Jvm.MethodName)) ∈ lw_all := lw_g (lw_at lw_m7 19 rfl) rfl
theorem q1526 : (Jvm.Cond.methodLink "TicketScalesLaw" (139 : Nat) ({ cls := "TicketScales", name := "would", desc := "(I)I" } : Jvm.MethodName)) ∈ lw_all := lw_g (lw_at lw_m7 27 rfl) rfl
theorem q1536 : (Jvm.Cond.methodLink "TicketScalesLaw" (143 : Nat) ({ cls := "TicketScales", name := "fairest", desc := "()I" } : Jvm.MethodName)) ∈ lw_all := lw_g (lw_at lw_m7 37 rfl) rfl
theorem q1541 : (Jvm.Cond.methodLink "TicketScalesLaw" (147 : Nat) ({ cls := "TicketScales", name := "soldOut", desc := "(I)I" } : Jvm.MethodName)) ∈ lw_all := lw_g (lw_at lw_m7 42 rfl) rfl
theorem q1552 : (Jvm.Cond.methodLink "TicketScalesLaw" (151 : Nat) ({ cls := "TicketScales", name := "shop", desc := "(II)I" } : Jvm.MethodName)) ∈ lw_all := lw_g (lw_at lw_m7 53 rfl) rfl
theorem q1565 : (Jvm.Cond.classLink "TicketScalesLaw" (10 : Nat) "TicketScalesModel") ∈ lw_all := lw_g (lw_at lw_m7 66 rfl) rfl
theorem q1567 : (Jvm.Cond.methodLink "TicketScalesLaw" (12 : Nat) ({ cls := "TicketScalesModel", name := "<init>", desc := "()V" } : Jvm.MethodName)) ∈ lw_all := lw_g (lw_at lw_m7 68 rfl) rfl
theorem q1618 : (Jvm.Cond.methodLink "TicketScalesLaw" (17 : Nat) ({ cls := "TicketScalesModel", name := "setKind", desc := "(III)I" } : Jvm.MethodName)) ∈ lw_all := lw_g (lw_at lw_m7 119 rfl) rfl
theorem q1645 : (Jvm.Cond.methodLink "TicketScalesLaw" (22 : Nat) ({ cls := "TicketScalesModel", name := "setScale", desc := "(II)I" } : Jvm.MethodName)) ∈ lw_all := lw_g (lw_at lw_m7 146 rfl) rfl
theorem q1653 : (Jvm.Cond.methodLink "TicketScalesLaw" (27 : Nat) ({ cls := "TicketScalesModel", name := "setBias", desc := "(I)I" } : Jvm.MethodName)) ∈ lw_all := lw_g (lw_at lw_m7 154 rfl) rfl
theorem q1661 : (Jvm.Cond.methodLink "TicketScalesLaw" (31 : Nat) ({ cls := "TicketScalesModel", name := "setRule", desc := "(I)I" } : Jvm.MethodName)) ∈ lw_all := lw_g (lw_at lw_m7 162 rfl) rfl
theorem q1665 : (Jvm.Cond.methodLink "TicketScalesLaw" (35 : Nat) ({ cls := "TicketScalesModel", name := "setFee", desc := "(I)I" } : Jvm.MethodName)) ∈ lw_all := lw_g (lw_at lw_m7 166 rfl) rfl
theorem q1669 : (Jvm.Cond.methodLink "TicketScalesLaw" (39 : Nat) ({ cls := "TicketScalesModel", name := "come", desc := "(I)I" } : Jvm.MethodName)) ∈ lw_all := lw_g (lw_at lw_m7 170 rfl) rfl
theorem q1678 : (Jvm.Cond.methodLink "TicketScalesLaw" (43 : Nat) ({ cls := "TicketScalesModel", name := "leave", desc := "(I)I" } : Jvm.MethodName)) ∈ lw_all := lw_g (lw_at lw_m7 179 rfl) rfl
theorem q1690 : (Jvm.Cond.methodLink "TicketScalesLaw" (48 : Nat) ({ cls := "TicketScalesModel", name := "weigh", desc := "(IIII)I" } : Jvm.MethodName)) ∈ lw_all := lw_g (lw_at lw_m7 191 rfl) rfl
theorem q1723 : (Jvm.Cond.methodLink "TicketScalesLaw" (52 : Nat) ({ cls := "TicketScalesModel", name := "claim", desc := "(II)I" } : Jvm.MethodName)) ∈ lw_all := lw_g (lw_at lw_m7 224 rfl) rfl
theorem q1735 : (Jvm.Cond.methodLink "TicketScalesLaw" (57 : Nat) ({ cls := "TicketScalesModel", name := "addPrize", desc := "(IIIII)I" } : Jvm.MethodName)) ∈ lw_all := lw_g (lw_at lw_m7 236 rfl) rfl
theorem q1744 : (Jvm.Cond.methodLink "TicketScalesLaw" (61 : Nat) ({ cls := "TicketScalesModel", name := "removePrize", desc := "(I)I" } : Jvm.MethodName)) ∈ lw_all := lw_g (lw_at lw_m8 5 rfl) rfl
theorem q1756 : (Jvm.Cond.methodLink "TicketScalesLaw" (65 : Nat) ({ cls := "TicketScalesModel", name := "setPrice", desc := "(II)I" } : Jvm.MethodName)) ∈ lw_all := lw_g (lw_at lw_m8 17 rfl) rfl
theorem q1760 : (Jvm.Cond.methodLink "TicketScalesLaw" (69 : Nat) ({ cls := "TicketScalesModel", name := "buy", desc := "(III)I" } : Jvm.MethodName)) ∈ lw_all := lw_g (lw_at lw_m8 21 rfl) rfl
theorem q1772 : (Jvm.Cond.methodLink "TicketScalesLaw" (73 : Nat) ({ cls := "TicketScalesModel", name := "take", desc := "(I)I" } : Jvm.MethodName)) ∈ lw_all := lw_g (lw_at lw_m8 33 rfl) rfl
theorem q1780 : (Jvm.Cond.methodLink "TicketScalesLaw" (77 : Nat) ({ cls := "TicketScalesModel", name := "restore", desc := "(I)I" } : Jvm.MethodName)) ∈ lw_all := lw_g (lw_at lw_m8 41 rfl) rfl
theorem q1784 : (Jvm.Cond.methodLink "TicketScalesLaw" (82 : Nat) ({ cls := "TicketScalesModel", name := "undo", desc := "()I" } : Jvm.MethodName)) ∈ lw_all := lw_g (lw_at lw_m8 45 rfl) rfl
theorem q1788 : (Jvm.Cond.methodLink "TicketScalesLaw" (86 : Nat) ({ cls := "TicketScalesModel", name := "append", desc := "(I)I" } : Jvm.MethodName)) ∈ lw_all := lw_g (lw_at lw_m8 49 rfl) rfl
theorem q1792 : (Jvm.Cond.methodLink "TicketScalesLaw" (90 : Nat) ({ cls := "TicketScalesModel", name := "clearText", desc := "()I" } : Jvm.MethodName)) ∈ lw_all := lw_g (lw_at lw_m8 53 rfl) rfl
theorem q1796 : (Jvm.Cond.methodLink "TicketScalesLaw" (94 : Nat) ({ cls := "TicketScalesModel", name := "run", desc := "()I" } : Jvm.MethodName)) ∈ lw_all := lw_g (lw_at lw_m8 57 rfl) rfl
theorem q1835 : (Jvm.Cond.methodLink "TicketScalesLaw" (98 : Nat) ({ cls := "TicketScalesModel", name := "failure", desc := "(I)I" } : Jvm.MethodName)) ∈ lw_all := lw_g (lw_at lw_m8 96 rfl) rfl
theorem q1839 : (Jvm.Cond.methodLink "TicketScalesLaw" (102 : Nat) ({ cls := "TicketScalesModel", name := "count", desc := "(I)I" } : Jvm.MethodName)) ∈ lw_all := lw_g (lw_at lw_m8 100 rfl) rfl
theorem q1851 : (Jvm.Cond.methodLink "TicketScalesLaw" (106 : Nat) ({ cls := "TicketScalesModel", name := "kind", desc := "(II)I" } : Jvm.MethodName)) ∈ lw_all := lw_g (lw_at lw_m8 112 rfl) rfl
theorem q1855 : (Jvm.Cond.methodLink "TicketScalesLaw" (110 : Nat) ({ cls := "TicketScalesModel", name := "customer", desc := "(II)I" } : Jvm.MethodName)) ∈ lw_all := lw_g (lw_at lw_m8 116 rfl) rfl
theorem q1859 : (Jvm.Cond.methodLink "TicketScalesLaw" (114 : Nat) ({ cls := "TicketScalesModel", name := "prize", desc := "(II)I" } : Jvm.MethodName)) ∈ lw_all := lw_g (lw_at lw_m8 120 rfl) rfl
theorem q1863 : (Jvm.Cond.methodLink "TicketScalesLaw" (118 : Nat) ({ cls := "TicketScalesModel", name := "read", desc := "(I)I" } : Jvm.MethodName)) ∈ lw_all := lw_g (lw_at lw_m8 124 rfl) rfl
theorem q1868 : (Jvm.Cond.methodLink "TicketScalesLaw" (122 : Nat) ({ cls := "TicketScalesModel", name := "allowed", desc := "(III)I" } : Jvm.MethodName)) ∈ lw_all := lw_g (lw_at lw_m8 129 rfl) rfl
theorem q1872 : (Jvm.Cond.methodLink "TicketScalesLaw" (126 : Nat) ({ cls := "TicketScalesModel", name := "guess", desc := "(III)I" } : Jvm.MethodName)) ∈ lw_all := lw_g (lw_at lw_m8 133 rfl) rfl
theorem q1876 : (Jvm.Cond.methodLink "TicketScalesLaw" (130 : Nat) ({ cls := "TicketScalesModel", name := "apartUpTo", desc := "(I)I" } : Jvm.MethodName)) ∈ lw_all := lw_g (lw_at lw_m8 137 rfl) rfl
theorem q1884 : (Jvm.Cond.methodLink "TicketScalesLaw" (134 : Nat) ({ cls := "TicketScalesModel", name := "bestStep", desc := "(II)I" } : Jvm.MethodName)) ∈ lw_all := lw_g (lw_at lw_m8 145 rfl) rfl
theorem q1888 : (Jvm.Cond.methodLink "TicketScalesLaw" (138 : Nat) ({ cls := "TicketScalesModel", name := "mixed", desc := "(IIII)I" } : Jvm.MethodName)) ∈ lw_all := lw_g (lw_at lw_m8 149 rfl) rfl
theorem q1896 : (Jvm.Cond.methodLink "TicketScalesLaw" (142 : Nat) ({ cls := "TicketScalesModel", name := "would", desc := "(I)I" } : Jvm.MethodName)) ∈ lw_all := lw_g (lw_at lw_m8 157 rfl) rfl
theorem q1904 : (Jvm.Cond.methodLink "TicketScalesLaw" (146 : Nat) ({ cls := "TicketScalesModel", name := "fairest", desc := "()I" } : Jvm.MethodName)) ∈ lw_all := lw_g (lw_at lw_m8 165 rfl) rfl
theorem q1908 : (Jvm.Cond.methodLink "TicketScalesLaw" (150 : Nat) ({ cls := "TicketScalesModel", name := "soldOut", desc := "(I)I" } : Jvm.MethodName)) ∈ lw_all := lw_g (lw_at lw_m8 169 rfl) rfl
theorem q1912 : (Jvm.Cond.methodLink "TicketScalesLaw" (154 : Nat) ({ cls := "TicketScalesModel", name := "shop", desc := "(II)I" } : Jvm.MethodName)) ∈ lw_all := lw_g (lw_at lw_m8 173 rfl) rfl

theorem q480 : (Jvm.Cond.interfaceMethod "TicketScales$Call" "TicketScales$Call" "on" "(LTicketScales$Counter;)I") ∈ lw_tbl := lw_at lw_m2 181 rfl
set_option maxRecDepth 100000
theorem q481 : (Jvm.Cond.declares ({ cls := "TicketScales$Call", name := "on", desc := "(LTicketScales$Counter;)I" } : Jvm.MethodName)) ∈ lw_tbl := lw_at lw_m2 182 rfl

theorem q924 : (Jvm.Cond.sameMethod "[B" "java/lang/Object" "clone" "()Ljava/lang/Object;") ∈ lw_all := lw_g (lw_at lw_m4 145 rfl) rfl
set_option maxRecDepth 100000
theorem q927 : (Jvm.Cond.selects "[B" ({ cls := "[B", name := "clone", desc := "()Ljava/lang/Object;" } : Jvm.MethodName) ({ cls := "java/lang/Object", name := "clone", desc := "()Ljava/lang/Object;" } : Jvm.MethodName)) ∈ lw_all := lw_g (lw_at lw_m4 148 rfl) rfl
theorem q928 : (Jvm.Cond.castable "[B" "java/lang/Cloneable") ∈ lw_tbl := lw_at lw_m4 149 rfl
theorem q1972 : (Jvm.Cond.castable "[B" "java/lang/Object") ∈ lw_tbl := lw_at lw_m8 233 rfl

theorem q1973 : (Jvm.Cond.castable "[C" "java/lang/Object") ∈ lw_tbl := lw_at lw_m8 234 rfl
set_option maxRecDepth 100000

theorem q1969 : (Jvm.Cond.castable "[I" "java/lang/Object") ∈ lw_tbl := lw_at lw_m8 230 rfl
set_option maxRecDepth 100000

theorem q1970 : (Jvm.Cond.castable "[LTicketScales$Counter;" "java/lang/Object") ∈ lw_tbl := lw_at lw_m8 231 rfl
set_option maxRecDepth 100000

theorem q1974 : (Jvm.Cond.castable "[LTicketScales$Guess;" "java/lang/Object") ∈ lw_tbl := lw_at lw_m8 235 rfl
set_option maxRecDepth 100000

theorem q1966 : (Jvm.Cond.sameMethod "[Ljava/lang/Object;" "java/lang/Object" "getClass" "()Ljava/lang/Class;") ∈ lw_all := lw_g (lw_at lw_m8 227 rfl) rfl
set_option maxRecDepth 100000
theorem q1967 : (Jvm.Cond.selects "[Ljava/lang/Object;" ({ cls := "java/lang/Object", name := "getClass", desc := "()Ljava/lang/Class;" } : Jvm.MethodName) ({ cls := "java/lang/Object", name := "getClass", desc := "()Ljava/lang/Class;" } : Jvm.MethodName)) ∈ lw_all := lw_g (lw_at lw_m8 228 rfl) rfl
theorem q1971 : (Jvm.Cond.castable "[Ljava/lang/Object;" "java/lang/Object") ∈ lw_tbl := lw_at lw_m8 232 rfl

theorem q1104 : (Jvm.Cond.interfaceMethod "java/lang/CharSequence" "java/lang/CharSequence" "charAt" "(I)C") ∈ lw_tbl := lw_at lw_m5 85 rfl
set_option maxRecDepth 100000
theorem q1105 : (Jvm.Cond.declares ({ cls := "java/lang/CharSequence", name := "charAt", desc := "(I)C" } : Jvm.MethodName)) ∈ lw_tbl := lw_at lw_m5 86 rfl

theorem q72 : (Jvm.Cond.initialized "java/lang/System") ∈ lw_all := lw_g (lw_at lw_m1 13 rfl) rfl
set_option maxRecDepth 100000
theorem q290 : (Jvm.Cond.static ({ cls := "java/lang/System", name := "arraycopy", desc := "(Ljava/lang/Object;ILjava/lang/Object;II)V" } : Jvm.MethodName)) ∈ lw_all := lw_g (lw_at lw_m1 231 rfl) rfl
theorem q291 : (Jvm.Cond.native ({ cls := "java/lang/System", name := "arraycopy", desc := "(Ljava/lang/Object;ILjava/lang/Object;II)V" } : Jvm.MethodName)) ∈ lw_all := lw_g (lw_at lw_m1 232 rfl) rfl

theorem q323 : (Jvm.Cond.interfaceMethod "java/util/Iterator" "java/util/Iterator" "hasNext" "()Z") ∈ lw_tbl := lw_at lw_m2 24 rfl
set_option maxRecDepth 100000
theorem q324 : (Jvm.Cond.declares ({ cls := "java/util/Iterator", name := "hasNext", desc := "()Z" } : Jvm.MethodName)) ∈ lw_tbl := lw_at lw_m2 25 rfl
theorem q333 : (Jvm.Cond.interfaceMethod "java/util/Iterator" "java/util/Iterator" "next" "()Ljava/lang/Object;") ∈ lw_tbl := lw_at lw_m2 34 rfl
theorem q334 : (Jvm.Cond.declares ({ cls := "java/util/Iterator", name := "next", desc := "()Ljava/lang/Object;" } : Jvm.MethodName)) ∈ lw_tbl := lw_at lw_m2 35 rfl

theorem q294 : (Jvm.Cond.interfaceMethod "java/util/List" "java/util/List" "iterator" "()Ljava/util/Iterator;") ∈ lw_tbl := lw_at lw_m1 235 rfl
set_option maxRecDepth 100000
theorem q295 : (Jvm.Cond.declares ({ cls := "java/util/List", name := "iterator", desc := "()Ljava/util/Iterator;" } : Jvm.MethodName)) ∈ lw_tbl := lw_at lw_m1 236 rfl
theorem q368 : (Jvm.Cond.interfaceMethod "java/util/List" "java/util/List" "add" "(Ljava/lang/Object;)Z") ∈ lw_tbl := lw_at lw_m2 69 rfl
theorem q369 : (Jvm.Cond.declares ({ cls := "java/util/List", name := "add", desc := "(Ljava/lang/Object;)Z" } : Jvm.MethodName)) ∈ lw_tbl := lw_at lw_m2 70 rfl
theorem q583 : (Jvm.Cond.interfaceMethod "java/util/List" "java/util/List" "size" "()I") ∈ lw_tbl := lw_at lw_m3 44 rfl
theorem q584 : (Jvm.Cond.declares ({ cls := "java/util/List", name := "size", desc := "()I" } : Jvm.MethodName)) ∈ lw_tbl := lw_at lw_m3 45 rfl
theorem q608 : (Jvm.Cond.interfaceMethod "java/util/List" "java/util/List" "remove" "(I)Ljava/lang/Object;") ∈ lw_tbl := lw_at lw_m3 69 rfl
theorem q609 : (Jvm.Cond.declares ({ cls := "java/util/List", name := "remove", desc := "(I)Ljava/lang/Object;" } : Jvm.MethodName)) ∈ lw_tbl := lw_at lw_m3 70 rfl
theorem q740 : (Jvm.Cond.interfaceMethod "java/util/List" "java/util/List" "get" "(I)Ljava/lang/Object;") ∈ lw_tbl := lw_at lw_m3 201 rfl
theorem q741 : (Jvm.Cond.declares ({ cls := "java/util/List", name := "get", desc := "(I)Ljava/lang/Object;" } : Jvm.MethodName)) ∈ lw_tbl := lw_at lw_m3 202 rfl

theorem q1210 : (Jvm.Cond.interfaceMethod "jdk/internal/access/JavaLangAccess" "jdk/internal/access/JavaLangAccess" "getUTF16Char" "([BI)C") ∈ lw_tbl := lw_at lw_m5 191 rfl
set_option maxRecDepth 100000
theorem q1211 : (Jvm.Cond.declares ({ cls := "jdk/internal/access/JavaLangAccess", name := "getUTF16Char", desc := "([BI)C" } : Jvm.MethodName)) ∈ lw_tbl := lw_at lw_m5 192 rfl

theorem q137 : (Jvm.Cond.arrayClass Jvm.ClassFile.FieldType.int) ∈ lw_all := lw_g (lw_at lw_m1 78 rfl) rfl
set_option maxRecDepth 100000
theorem q184 : (Jvm.Cond.arrayOver (Jvm.ClassFile.FieldType.object "TicketScales$Counter")) ∈ lw_tbl := lw_at lw_m1 125 rfl
theorem q201 : (Jvm.Cond.arrayOver (Jvm.ClassFile.FieldType.object "java/lang/Object")) ∈ lw_tbl := lw_at lw_m1 142 rfl
theorem q244 : (Jvm.Cond.arrayClass Jvm.ClassFile.FieldType.byte) ∈ lw_all := lw_g (lw_at lw_m1 185 rfl) rfl
theorem q1617 : (Jvm.Cond.arrayClass Jvm.ClassFile.FieldType.char) ∈ lw_all := lw_g (lw_at lw_m7 118 rfl) rfl
theorem q1975 : (Jvm.Cond.arrayClass Jvm.ClassFile.FieldType.short) ∈ lw_all := lw_g (lw_at lw_m8 236 rfl) rfl
