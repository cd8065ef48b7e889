set_option maxRecDepth 100000
theorem q116 : (Jvm.Cond.initialized "SealCastsModel") ∈ lw_all := lw_g (lw_at lw_m1 8 rfl) rfl
theorem q1058 : (Jvm.Cond.selects "SealCastsModel" ({ cls := "java/lang/Object", name := "getClass", desc := "()Ljava/lang/Class;" } : Jvm.MethodName) ({ cls := "java/lang/Object", name := "getClass", desc := "()Ljava/lang/Class;" } : Jvm.MethodName)) ∈ lw_all := lw_g (lw_at lw_m4 230 rfl) rfl
theorem q1615 : (Jvm.Cond.instantiable "SealCastsModel" (69 : Nat)) ∈ lw_all := lw_g (lw_at lw_m7 67 rfl) rfl
theorem q1617 : (Jvm.Cond.instanceMethod ({ cls := "SealCastsModel", name := "<init>", desc := "()V" } : Jvm.MethodName)) ∈ lw_all := lw_g (lw_at lw_m7 69 rfl) rfl
theorem q1618 : (Jvm.Cond.code ({ cls := "SealCastsModel", name := "<init>", desc := "()V" } : Jvm.MethodName) prog_27_method_1_code (1 : Nat) (Option.none : Option Jvm.ClassFile.FieldType)) ∈ lw_all := lw_g (lw_at lw_m7 70 rfl) rfl
theorem q1619 : (Jvm.Cond.methodLink "SealCastsModel" (1 : Nat) ({ cls := "java/lang/Object", name := "<init>", desc := "()V" } : Jvm.MethodName)) ∈ lw_all := lw_g (lw_at lw_m7 71 rfl) rfl
theorem q1620 : (Jvm.Cond.constant "SealCastsModel" (101 : Nat) (65536 : Int32)) ∈ lw_all := lw_g (lw_at lw_m7 72 rfl) rfl
theorem q1621 : (Jvm.Cond.methodLink "SealCastsModel" (147 : Nat) ({ cls := "SealCastsModel", name := "clearBank", desc := "()V" } : Jvm.MethodName)) ∈ lw_all := lw_g (lw_at lw_m7 73 rfl) rfl
theorem q1622 : (Jvm.Cond.privateMethod ({ cls := "SealCastsModel", name := "clearBank", desc := "()V" } : Jvm.MethodName)) ∈ lw_tbl := lw_at lw_m7 74 rfl
theorem q1623 : (Jvm.Cond.instanceMethod ({ cls := "SealCastsModel", name := "clearBank", desc := "()V" } : Jvm.MethodName)) ∈ lw_all := lw_g (lw_at lw_m7 75 rfl) rfl
theorem q1624 : (Jvm.Cond.code ({ cls := "SealCastsModel", name := "clearBank", desc := "()V" } : Jvm.MethodName) prog_27_method_15_code (1 : Nat) (Option.none : Option Jvm.ClassFile.FieldType)) ∈ lw_all := lw_g (lw_at lw_m7 76 rfl) rfl
theorem q1625 : (Jvm.Cond.methodLink "SealCastsModel" (150 : Nat) ({ cls := "SealCastsModel", name := "startAnew", desc := "()V" } : Jvm.MethodName)) ∈ lw_all := lw_g (lw_at lw_m7 77 rfl) rfl
theorem q1626 : (Jvm.Cond.privateMethod ({ cls := "SealCastsModel", name := "startAnew", desc := "()V" } : Jvm.MethodName)) ∈ lw_tbl := lw_at lw_m7 78 rfl
theorem q1627 : (Jvm.Cond.instanceMethod ({ cls := "SealCastsModel", name := "startAnew", desc := "()V" } : Jvm.MethodName)) ∈ lw_all := lw_g (lw_at lw_m7 79 rfl) rfl
theorem q1628 : (Jvm.Cond.code ({ cls := "SealCastsModel", name := "startAnew", desc := "()V" } : Jvm.MethodName) prog_27_method_47_code (2 : Nat) (Option.none : Option Jvm.ClassFile.FieldType)) ∈ lw_all := lw_g (lw_at lw_m7 80 rfl) rfl
theorem q1629 : (Jvm.Cond.fieldLink "SealCastsModel" (7 : Nat) "SealCastsModel" "tape" "[B") ∈ lw_all := lw_g (lw_at lw_m7 81 rfl) rfl
theorem q1630 : (Jvm.Cond.fieldLink "SealCastsModel" (13 : Nat) "SealCastsModel" "text" "[B") ∈ lw_all := lw_g (lw_at lw_m7 82 rfl) rfl
theorem q1631 : (Jvm.Cond.fieldLink "SealCastsModel" (247 : Nat) "SealCastsModel" "taped" "I") ∈ lw_all := lw_g (lw_at lw_m7 83 rfl) rfl
theorem q1632 : (Jvm.Cond.fieldLink "SealCastsModel" (153 : Nat) "SealCastsModel" "size" "I") ∈ lw_all := lw_g (lw_at lw_m7 84 rfl) rfl
theorem q1633 : (Jvm.Cond.fieldLink "SealCastsModel" (156 : Nat) "SealCastsModel" "faultKind" "I") ∈ lw_all := lw_g (lw_at lw_m7 85 rfl) rfl
theorem q1634 : (Jvm.Cond.fieldLink "SealCastsModel" (16 : Nat) "SealCastsModel" "faultPlace" "I") ∈ lw_all := lw_g (lw_at lw_m7 86 rfl) rfl
theorem q1635 : (Jvm.Cond.fieldLink "SealCastsModel" (196 : Nat) "SealCastsModel" "at" "I") ∈ lw_all := lw_g (lw_at lw_m7 87 rfl) rfl
theorem q1636 : (Jvm.Cond.fieldLink "SealCastsModel" (193 : Nat) "SealCastsModel" "end" "I") ∈ lw_all := lw_g (lw_at lw_m7 88 rfl) rfl
theorem q1637 : (Jvm.Cond.fieldLink "SealCastsModel" (203 : Nat) "SealCastsModel" "token" "I") ∈ lw_all := lw_g (lw_at lw_m7 89 rfl) rfl
theorem q1638 : (Jvm.Cond.fieldLink "SealCastsModel" (221 : Nat) "SealCastsModel" "number" "I") ∈ lw_all := lw_g (lw_at lw_m7 90 rfl) rfl
theorem q1639 : (Jvm.Cond.fieldLink "SealCastsModel" (210 : Nat) "SealCastsModel" "name" "J") ∈ lw_all := lw_g (lw_at lw_m7 91 rfl) rfl
theorem q1640 : (Jvm.Cond.fieldLink "SealCastsModel" (20 : Nat) "SealCastsModel" "wide" "[I") ∈ lw_all := lw_g (lw_at lw_m7 92 rfl) rfl
theorem q1641 : (Jvm.Cond.fieldLink "SealCastsModel" (24 : Nat) "SealCastsModel" "firstRow" "[I") ∈ lw_all := lw_g (lw_at lw_m7 93 rfl) rfl
theorem q1642 : (Jvm.Cond.fieldLink "SealCastsModel" (27 : Nat) "SealCastsModel" "hands" "[I") ∈ lw_all := lw_g (lw_at lw_m7 94 rfl) rfl
theorem q1643 : (Jvm.Cond.fieldLink "SealCastsModel" (30 : Nat) "SealCastsModel" "units" "[I") ∈ lw_all := lw_g (lw_at lw_m7 95 rfl) rfl
theorem q1644 : (Jvm.Cond.fieldLink "SealCastsModel" (33 : Nat) "SealCastsModel" "waxTold" "[I") ∈ lw_all := lw_g (lw_at lw_m7 96 rfl) rfl
theorem q1645 : (Jvm.Cond.fieldLink "SealCastsModel" (36 : Nat) "SealCastsModel" "draw" "[I") ∈ lw_all := lw_g (lw_at lw_m7 97 rfl) rfl
theorem q1646 : (Jvm.Cond.fieldLink "SealCastsModel" (39 : Nat) "SealCastsModel" "lines" "[I") ∈ lw_all := lw_g (lw_at lw_m7 98 rfl) rfl
theorem q1647 : (Jvm.Cond.fieldLink "SealCastsModel" (42 : Nat) "SealCastsModel" "ruleFrom" "[I") ∈ lw_all := lw_g (lw_at lw_m7 99 rfl) rfl
theorem q1648 : (Jvm.Cond.fieldLink "SealCastsModel" (45 : Nat) "SealCastsModel" "ruleTo" "[I") ∈ lw_all := lw_g (lw_at lw_m7 100 rfl) rfl
theorem q1649 : (Jvm.Cond.fieldLink "SealCastsModel" (48 : Nat) "SealCastsModel" "hasFirst" "[Z") ∈ lw_all := lw_g (lw_at lw_m7 101 rfl) rfl
theorem q1650 : (Jvm.Cond.fieldLink "SealCastsModel" (52 : Nat) "SealCastsModel" "hasWax" "[Z") ∈ lw_all := lw_g (lw_at lw_m7 102 rfl) rfl
theorem q1651 : (Jvm.Cond.fieldLink "SealCastsModel" (55 : Nat) "SealCastsModel" "hasDraw" "[Z") ∈ lw_all := lw_g (lw_at lw_m7 103 rfl) rfl
theorem q1652 : (Jvm.Cond.fieldLink "SealCastsModel" (58 : Nat) "SealCastsModel" "hName" "[J") ∈ lw_all := lw_g (lw_at lw_m7 104 rfl) rfl
theorem q1653 : (Jvm.Cond.fieldLink "SealCastsModel" (62 : Nat) "SealCastsModel" "code" "[I") ∈ lw_all := lw_g (lw_at lw_m7 105 rfl) rfl
theorem q1654 : (Jvm.Cond.fieldLink "SealCastsModel" (65 : Nat) "SealCastsModel" "codeNumber" "[I") ∈ lw_all := lw_g (lw_at lw_m7 106 rfl) rfl
theorem q1655 : (Jvm.Cond.fieldLink "SealCastsModel" (68 : Nat) "SealCastsModel" "eWhat" "[I") ∈ lw_all := lw_g (lw_at lw_m7 107 rfl) rfl
theorem q1656 : (Jvm.Cond.fieldLink "SealCastsModel" (71 : Nat) "SealCastsModel" "eSign" "[I") ∈ lw_all := lw_g (lw_at lw_m7 108 rfl) rfl
theorem q1657 : (Jvm.Cond.fieldLink "SealCastsModel" (74 : Nat) "SealCastsModel" "pile" "[I") ∈ lw_all := lw_g (lw_at lw_m7 109 rfl) rfl
theorem q1658 : (Jvm.Cond.fieldLink "SealCastsModel" (250 : Nat) "SealCastsModel" "bank" "I") ∈ lw_all := lw_g (lw_at lw_m7 110 rfl) rfl
theorem q1659 : (Jvm.Cond.fieldLink "SealCastsModel" (241 : Nat) "SealCastsModel" "rb" "I") ∈ lw_all := lw_g (lw_at lw_m7 111 rfl) rfl
theorem q1660 : (Jvm.Cond.fieldLink "SealCastsModel" (244 : Nat) "SealCastsModel" "codes" "I") ∈ lw_all := lw_g (lw_at lw_m7 112 rfl) rfl
theorem q1661 : (Jvm.Cond.fieldLink "SealCastsModel" (296 : Nat) "SealCastsModel" "within" "I") ∈ lw_all := lw_g (lw_at lw_m7 113 rfl) rfl
theorem q1662 : (Jvm.Cond.fieldLink "SealCastsModel" (293 : Nat) "SealCastsModel" "piled" "I") ∈ lw_all := lw_g (lw_at lw_m7 114 rfl) rfl
theorem q1663 : (Jvm.Cond.fieldLink "SealCastsModel" (287 : Nat) "SealCastsModel" "unitsInRule" "I") ∈ lw_all := lw_g (lw_at lw_m7 115 rfl) rfl
theorem q1664 : (Jvm.Cond.fieldLink "SealCastsModel" (323 : Nat) "SealCastsModel" "askRow" "I") ∈ lw_all := lw_g (lw_at lw_m7 116 rfl) rfl
theorem q1665 : (Jvm.Cond.fieldLink "SealCastsModel" (320 : Nat) "SealCastsModel" "askMark" "I") ∈ lw_all := lw_g (lw_at lw_m7 117 rfl) rfl
theorem q1666 : (Jvm.Cond.fieldLink "SealCastsModel" (326 : Nat) "SealCastsModel" "askMany" "I") ∈ lw_all := lw_g (lw_at lw_m7 118 rfl) rfl
theorem q1667 : (Jvm.Cond.fieldLink "SealCastsModel" (329 : Nat) "SealCastsModel" "askHeat" "I") ∈ lw_all := lw_g (lw_at lw_m7 119 rfl) rfl
theorem q1668 : (Jvm.Cond.fieldLink "SealCastsModel" (332 : Nat) "SealCastsModel" "askDraw" "I") ∈ lw_all := lw_g (lw_at lw_m7 120 rfl) rfl
theorem q1669 : (Jvm.Cond.fieldLink "SealCastsModel" (77 : Nat) "SealCastsModel" "all" "[I") ∈ lw_all := lw_g (lw_at lw_m7 121 rfl) rfl
theorem q1670 : (Jvm.Cond.fieldLink "SealCastsModel" (80 : Nat) "SealCastsModel" "was" "[I") ∈ lw_all := lw_g (lw_at lw_m7 122 rfl) rfl
theorem q1671 : (Jvm.Cond.fieldLink "SealCastsModel" (371 : Nat) "SealCastsModel" "acts" "I") ∈ lw_all := lw_g (lw_at lw_m7 123 rfl) rfl
theorem q1672 : (Jvm.Cond.fieldLink "SealCastsModel" (374 : Nat) "SealCastsModel" "undone" "I") ∈ lw_all := lw_g (lw_at lw_m7 124 rfl) rfl
theorem q1673 : (Jvm.Cond.fieldLink "SealCastsModel" (83 : Nat) "SealCastsModel" "drawn" "[I") ∈ lw_all := lw_g (lw_at lw_m7 125 rfl) rfl
theorem q1674 : (Jvm.Cond.fieldLink "SealCastsModel" (86 : Nat) "SealCastsModel" "shareOf" "[I") ∈ lw_all := lw_g (lw_at lw_m7 126 rfl) rfl
theorem q1675 : (Jvm.Cond.fieldLink "SealCastsModel" (89 : Nat) "SealCastsModel" "restOf" "[I") ∈ lw_all := lw_g (lw_at lw_m7 127 rfl) rfl
theorem q1676 : (Jvm.Cond.fieldLink "SealCastsModel" (92 : Nat) "SealCastsModel" "laidRow" "[I") ∈ lw_all := lw_g (lw_at lw_m7 128 rfl) rfl
theorem q1677 : (Jvm.Cond.fieldLink "SealCastsModel" (380 : Nat) "SealCastsModel" "laid" "I") ∈ lw_all := lw_g (lw_at lw_m7 129 rfl) rfl
theorem q1678 : (Jvm.Cond.fieldLink "SealCastsModel" (95 : Nat) "SealCastsModel" "metAt" "[I") ∈ lw_all := lw_g (lw_at lw_m7 130 rfl) rfl
theorem q1679 : (Jvm.Cond.fieldLink "SealCastsModel" (98 : Nat) "SealCastsModel" "still" "[I") ∈ lw_all := lw_g (lw_at lw_m7 131 rfl) rfl
theorem q1680 : (Jvm.Cond.fieldLink "SealCastsModel" (102 : Nat) "SealCastsModel" "next" "[I") ∈ lw_all := lw_g (lw_at lw_m7 132 rfl) rfl
theorem q1681 : (Jvm.Cond.fieldLink "SealCastsModel" (105 : Nat) "SealCastsModel" "fSort" "[I") ∈ lw_all := lw_g (lw_at lw_m7 133 rfl) rfl
theorem q1682 : (Jvm.Cond.fieldLink "SealCastsModel" (108 : Nat) "SealCastsModel" "fOne" "[I") ∈ lw_all := lw_g (lw_at lw_m7 134 rfl) rfl
theorem q1683 : (Jvm.Cond.fieldLink "SealCastsModel" (111 : Nat) "SealCastsModel" "fTwo" "[I") ∈ lw_all := lw_g (lw_at lw_m7 135 rfl) rfl
theorem q1684 : (Jvm.Cond.fieldLink "SealCastsModel" (114 : Nat) "SealCastsModel" "fThree" "[I") ∈ lw_all := lw_g (lw_at lw_m7 136 rfl) rfl
theorem q1685 : (Jvm.Cond.fieldLink "SealCastsModel" (117 : Nat) "SealCastsModel" "fTold" "[I") ∈ lw_all := lw_g (lw_at lw_m7 137 rfl) rfl
theorem q1686 : (Jvm.Cond.fieldLink "SealCastsModel" (120 : Nat) "SealCastsModel" "fUntold" "[I") ∈ lw_all := lw_g (lw_at lw_m7 138 rfl) rfl
theorem q1687 : (Jvm.Cond.fieldLink "SealCastsModel" (377 : Nat) "SealCastsModel" "facts" "I") ∈ lw_all := lw_g (lw_at lw_m7 139 rfl) rfl
theorem q1688 : (Jvm.Cond.fieldLink "SealCastsModel" (420 : Nat) "SealCastsModel" "time" "I") ∈ lw_all := lw_g (lw_at lw_m7 140 rfl) rfl
theorem q1689 : (Jvm.Cond.fieldLink "SealCastsModel" (123 : Nat) "SealCastsModel" "treeRow" "[I") ∈ lw_all := lw_g (lw_at lw_m7 141 rfl) rfl
theorem q1690 : (Jvm.Cond.fieldLink "SealCastsModel" (126 : Nat) "SealCastsModel" "from" "[I") ∈ lw_all := lw_g (lw_at lw_m7 142 rfl) rfl
theorem q1691 : (Jvm.Cond.fieldLink "SealCastsModel" (129 : Nat) "SealCastsModel" "change" "[I") ∈ lw_all := lw_g (lw_at lw_m7 143 rfl) rfl
theorem q1692 : (Jvm.Cond.fieldLink "SealCastsModel" (427 : Nat) "SealCastsModel" "treeMany" "I") ∈ lw_all := lw_g (lw_at lw_m7 144 rfl) rfl
theorem q1693 : (Jvm.Cond.fieldLink "SealCastsModel" (132 : Nat) "SealCastsModel" "clanOf" "[I") ∈ lw_all := lw_g (lw_at lw_m7 145 rfl) rfl
theorem q1694 : (Jvm.Cond.fieldLink "SealCastsModel" (135 : Nat) "SealCastsModel" "side" "[I") ∈ lw_all := lw_g (lw_at lw_m7 146 rfl) rfl
theorem q1695 : (Jvm.Cond.fieldLink "SealCastsModel" (138 : Nat) "SealCastsModel" "group" "[I") ∈ lw_all := lw_g (lw_at lw_m7 147 rfl) rfl
theorem q1696 : (Jvm.Cond.fieldLink "SealCastsModel" (141 : Nat) "SealCastsModel" "boxAll" "[I") ∈ lw_all := lw_g (lw_at lw_m7 148 rfl) rfl
theorem q1697 : (Jvm.Cond.fieldLink "SealCastsModel" (144 : Nat) "SealCastsModel" "isBoxed" "[Z") ∈ lw_all := lw_g (lw_at lw_m7 149 rfl) rfl
theorem q1698 : (Jvm.Cond.laysFinal "SealCastsModel" "SealCastsModel" "tape" "[B") ∈ lw_all := lw_g (lw_at lw_m7 150 rfl) rfl
theorem q1699 : (Jvm.Cond.soleField "SealCastsModel" "tape") ∈ lw_all := lw_g (lw_at lw_m7 151 rfl) rfl
theorem q1700 : (Jvm.Cond.laysFinal "SealCastsModel" "SealCastsModel" "text" "[B") ∈ lw_all := lw_g (lw_at lw_m7 152 rfl) rfl
theorem q1701 : (Jvm.Cond.soleField "SealCastsModel" "text") ∈ lw_all := lw_g (lw_at lw_m7 153 rfl) rfl
theorem q1702 : (Jvm.Cond.lays "SealCastsModel" "SealCastsModel" "taped" "I") ∈ lw_all := lw_g (lw_at lw_m7 154 rfl) rfl
theorem q1703 : (Jvm.Cond.soleField "SealCastsModel" "taped") ∈ lw_all := lw_g (lw_at lw_m7 155 rfl) rfl
theorem q1704 : (Jvm.Cond.lays "SealCastsModel" "SealCastsModel" "size" "I") ∈ lw_all := lw_g (lw_at lw_m7 156 rfl) rfl
theorem q1705 : (Jvm.Cond.soleField "SealCastsModel" "size") ∈ lw_all := lw_g (lw_at lw_m7 157 rfl) rfl
theorem q1706 : (Jvm.Cond.lays "SealCastsModel" "SealCastsModel" "faultKind" "I") ∈ lw_all := lw_g (lw_at lw_m7 158 rfl) rfl
theorem q1707 : (Jvm.Cond.soleField "SealCastsModel" "faultKind") ∈ lw_all := lw_g (lw_at lw_m7 159 rfl) rfl
theorem q1708 : (Jvm.Cond.lays "SealCastsModel" "SealCastsModel" "faultPlace" "I") ∈ lw_all := lw_g (lw_at lw_m7 160 rfl) rfl
theorem q1709 : (Jvm.Cond.soleField "SealCastsModel" "faultPlace") ∈ lw_all := lw_g (lw_at lw_m7 161 rfl) rfl
theorem q1710 : (Jvm.Cond.lays "SealCastsModel" "SealCastsModel" "at" "I") ∈ lw_all := lw_g (lw_at lw_m7 162 rfl) rfl
theorem q1711 : (Jvm.Cond.soleField "SealCastsModel" "at") ∈ lw_all := lw_g (lw_at lw_m7 163 rfl) rfl
theorem q1712 : (Jvm.Cond.lays "SealCastsModel" "SealCastsModel" "end" "I") ∈ lw_all := lw_g (lw_at lw_m7 164 rfl) rfl
theorem q1713 : (Jvm.Cond.soleField "SealCastsModel" "end") ∈ lw_all := lw_g (lw_at lw_m7 165 rfl) rfl
theorem q1714 : (Jvm.Cond.lays "SealCastsModel" "SealCastsModel" "token" "I") ∈ lw_all := lw_g (lw_at lw_m7 166 rfl) rfl
theorem q1715 : (Jvm.Cond.soleField "SealCastsModel" "token") ∈ lw_all := lw_g (lw_at lw_m7 167 rfl) rfl
theorem q1716 : (Jvm.Cond.lays "SealCastsModel" "SealCastsModel" "number" "I") ∈ lw_all := lw_g (lw_at lw_m7 168 rfl) rfl
theorem q1717 : (Jvm.Cond.soleField "SealCastsModel" "number") ∈ lw_all := lw_g (lw_at lw_m7 169 rfl) rfl
theorem q1718 : (Jvm.Cond.lays "SealCastsModel" "SealCastsModel" "name" "J") ∈ lw_all := lw_g (lw_at lw_m7 170 rfl) rfl
theorem q1719 : (Jvm.Cond.soleField "SealCastsModel" "name") ∈ lw_all := lw_g (lw_at lw_m7 171 rfl) rfl
theorem q1720 : (Jvm.Cond.laysFinal "SealCastsModel" "SealCastsModel" "wide" "[I") ∈ lw_all := lw_g (lw_at lw_m7 172 rfl) rfl
theorem q1721 : (Jvm.Cond.soleField "SealCastsModel" "wide") ∈ lw_all := lw_g (lw_at lw_m7 173 rfl) rfl
theorem q1722 : (Jvm.Cond.laysFinal "SealCastsModel" "SealCastsModel" "firstRow" "[I") ∈ lw_all := lw_g (lw_at lw_m7 174 rfl) rfl
theorem q1723 : (Jvm.Cond.soleField "SealCastsModel" "firstRow") ∈ lw_all := lw_g (lw_at lw_m7 175 rfl) rfl
theorem q1724 : (Jvm.Cond.laysFinal "SealCastsModel" "SealCastsModel" "hands" "[I") ∈ lw_all := lw_g (lw_at lw_m7 176 rfl) rfl
theorem q1725 : (Jvm.Cond.soleField "SealCastsModel" "hands") ∈ lw_all := lw_g (lw_at lw_m7 177 rfl) rfl
theorem q1726 : (Jvm.Cond.laysFinal "SealCastsModel" "SealCastsModel" "units" "[I") ∈ lw_all := lw_g (lw_at lw_m7 178 rfl) rfl
theorem q1727 : (Jvm.Cond.soleField "SealCastsModel" "units") ∈ lw_all := lw_g (lw_at lw_m7 179 rfl) rfl
theorem q1728 : (Jvm.Cond.laysFinal "SealCastsModel" "SealCastsModel" "waxTold" "[I") ∈ lw_all := lw_g (lw_at lw_m7 180 rfl) rfl
theorem q1729 : (Jvm.Cond.soleField "SealCastsModel" "waxTold") ∈ lw_all := lw_g (lw_at lw_m7 181 rfl) rfl
theorem q1730 : (Jvm.Cond.laysFinal "SealCastsModel" "SealCastsModel" "draw" "[I") ∈ lw_all := lw_g (lw_at lw_m7 182 rfl) rfl
theorem q1731 : (Jvm.Cond.soleField "SealCastsModel" "draw") ∈ lw_all := lw_g (lw_at lw_m7 183 rfl) rfl
theorem q1732 : (Jvm.Cond.laysFinal "SealCastsModel" "SealCastsModel" "lines" "[I") ∈ lw_all := lw_g (lw_at lw_m7 184 rfl) rfl
theorem q1733 : (Jvm.Cond.soleField "SealCastsModel" "lines") ∈ lw_all := lw_g (lw_at lw_m7 185 rfl) rfl
theorem q1734 : (Jvm.Cond.laysFinal "SealCastsModel" "SealCastsModel" "ruleFrom" "[I") ∈ lw_all := lw_g (lw_at lw_m7 186 rfl) rfl
theorem q1735 : (Jvm.Cond.soleField "SealCastsModel" "ruleFrom") ∈ lw_all := lw_g (lw_at lw_m7 187 rfl) rfl
theorem q1736 : (Jvm.Cond.laysFinal "SealCastsModel" "SealCastsModel" "ruleTo" "[I") ∈ lw_all := lw_g (lw_at lw_m7 188 rfl) rfl
theorem q1737 : (Jvm.Cond.soleField "SealCastsModel" "ruleTo") ∈ lw_all := lw_g (lw_at lw_m7 189 rfl) rfl
theorem q1738 : (Jvm.Cond.laysFinal "SealCastsModel" "SealCastsModel" "hasFirst" "[Z") ∈ lw_all := lw_g (lw_at lw_m7 190 rfl) rfl
theorem q1739 : (Jvm.Cond.soleField "SealCastsModel" "hasFirst") ∈ lw_all := lw_g (lw_at lw_m7 191 rfl) rfl
theorem q1740 : (Jvm.Cond.laysFinal "SealCastsModel" "SealCastsModel" "hasWax" "[Z") ∈ lw_all := lw_g (lw_at lw_m7 192 rfl) rfl
theorem q1741 : (Jvm.Cond.soleField "SealCastsModel" "hasWax") ∈ lw_all := lw_g (lw_at lw_m7 193 rfl) rfl
theorem q1742 : (Jvm.Cond.laysFinal "SealCastsModel" "SealCastsModel" "hasDraw" "[Z") ∈ lw_all := lw_g (lw_at lw_m7 194 rfl) rfl
theorem q1743 : (Jvm.Cond.soleField "SealCastsModel" "hasDraw") ∈ lw_all := lw_g (lw_at lw_m7 195 rfl) rfl
theorem q1744 : (Jvm.Cond.laysFinal "SealCastsModel" "SealCastsModel" "hName" "[J") ∈ lw_all := lw_g (lw_at lw_m7 196 rfl) rfl
theorem q1745 : (Jvm.Cond.soleField "SealCastsModel" "hName") ∈ lw_all := lw_g (lw_at lw_m7 197 rfl) rfl
theorem q1746 : (Jvm.Cond.laysFinal "SealCastsModel" "SealCastsModel" "code" "[I") ∈ lw_all := lw_g (lw_at lw_m7 198 rfl) rfl
theorem q1747 : (Jvm.Cond.soleField "SealCastsModel" "code") ∈ lw_all := lw_g (lw_at lw_m7 199 rfl) rfl
theorem q1748 : (Jvm.Cond.laysFinal "SealCastsModel" "SealCastsModel" "codeNumber" "[I") ∈ lw_all := lw_g (lw_at lw_m7 200 rfl) rfl
theorem q1749 : (Jvm.Cond.soleField "SealCastsModel" "codeNumber") ∈ lw_all := lw_g (lw_at lw_m7 201 rfl) rfl
theorem q1750 : (Jvm.Cond.laysFinal "SealCastsModel" "SealCastsModel" "eWhat" "[I") ∈ lw_all := lw_g (lw_at lw_m7 202 rfl) rfl
theorem q1751 : (Jvm.Cond.soleField "SealCastsModel" "eWhat") ∈ lw_all := lw_g (lw_at lw_m7 203 rfl) rfl
theorem q1752 : (Jvm.Cond.laysFinal "SealCastsModel" "SealCastsModel" "eSign" "[I") ∈ lw_all := lw_g (lw_at lw_m7 204 rfl) rfl
theorem q1753 : (Jvm.Cond.soleField "SealCastsModel" "eSign") ∈ lw_all := lw_g (lw_at lw_m7 205 rfl) rfl
theorem q1754 : (Jvm.Cond.laysFinal "SealCastsModel" "SealCastsModel" "pile" "[I") ∈ lw_all := lw_g (lw_at lw_m7 206 rfl) rfl
theorem q1755 : (Jvm.Cond.soleField "SealCastsModel" "pile") ∈ lw_all := lw_g (lw_at lw_m7 207 rfl) rfl
theorem q1756 : (Jvm.Cond.lays "SealCastsModel" "SealCastsModel" "bank" "I") ∈ lw_all := lw_g (lw_at lw_m7 208 rfl) rfl
theorem q1757 : (Jvm.Cond.soleField "SealCastsModel" "bank") ∈ lw_all := lw_g (lw_at lw_m7 209 rfl) rfl
theorem q1758 : (Jvm.Cond.lays "SealCastsModel" "SealCastsModel" "rb" "I") ∈ lw_all := lw_g (lw_at lw_m7 210 rfl) rfl
theorem q1759 : (Jvm.Cond.soleField "SealCastsModel" "rb") ∈ lw_all := lw_g (lw_at lw_m7 211 rfl) rfl
theorem q1760 : (Jvm.Cond.lays "SealCastsModel" "SealCastsModel" "codes" "I") ∈ lw_all := lw_g (lw_at lw_m7 212 rfl) rfl
theorem q1761 : (Jvm.Cond.soleField "SealCastsModel" "codes") ∈ lw_all := lw_g (lw_at lw_m7 213 rfl) rfl
theorem q1762 : (Jvm.Cond.lays "SealCastsModel" "SealCastsModel" "within" "I") ∈ lw_all := lw_g (lw_at lw_m7 214 rfl) rfl
theorem q1763 : (Jvm.Cond.soleField "SealCastsModel" "within") ∈ lw_all := lw_g (lw_at lw_m7 215 rfl) rfl
theorem q1764 : (Jvm.Cond.lays "SealCastsModel" "SealCastsModel" "piled" "I") ∈ lw_all := lw_g (lw_at lw_m7 216 rfl) rfl
theorem q1765 : (Jvm.Cond.soleField "SealCastsModel" "piled") ∈ lw_all := lw_g (lw_at lw_m7 217 rfl) rfl
theorem q1766 : (Jvm.Cond.lays "SealCastsModel" "SealCastsModel" "unitsInRule" "I") ∈ lw_all := lw_g (lw_at lw_m7 218 rfl) rfl
theorem q1767 : (Jvm.Cond.soleField "SealCastsModel" "unitsInRule") ∈ lw_all := lw_g (lw_at lw_m7 219 rfl) rfl
theorem q1768 : (Jvm.Cond.lays "SealCastsModel" "SealCastsModel" "askRow" "I") ∈ lw_all := lw_g (lw_at lw_m7 220 rfl) rfl
theorem q1769 : (Jvm.Cond.soleField "SealCastsModel" "askRow") ∈ lw_all := lw_g (lw_at lw_m7 221 rfl) rfl
theorem q1770 : (Jvm.Cond.lays "SealCastsModel" "SealCastsModel" "askMark" "I") ∈ lw_all := lw_g (lw_at lw_m7 222 rfl) rfl
theorem q1771 : (Jvm.Cond.soleField "SealCastsModel" "askMark") ∈ lw_all := lw_g (lw_at lw_m7 223 rfl) rfl
theorem q1772 : (Jvm.Cond.lays "SealCastsModel" "SealCastsModel" "askMany" "I") ∈ lw_all := lw_g (lw_at lw_m7 224 rfl) rfl
theorem q1773 : (Jvm.Cond.soleField "SealCastsModel" "askMany") ∈ lw_all := lw_g (lw_at lw_m7 225 rfl) rfl
theorem q1774 : (Jvm.Cond.lays "SealCastsModel" "SealCastsModel" "askHeat" "I") ∈ lw_all := lw_g (lw_at lw_m7 226 rfl) rfl
theorem q1775 : (Jvm.Cond.soleField "SealCastsModel" "askHeat") ∈ lw_all := lw_g (lw_at lw_m7 227 rfl) rfl
theorem q1776 : (Jvm.Cond.lays "SealCastsModel" "SealCastsModel" "askDraw" "I") ∈ lw_all := lw_g (lw_at lw_m7 228 rfl) rfl
theorem q1777 : (Jvm.Cond.soleField "SealCastsModel" "askDraw") ∈ lw_all := lw_g (lw_at lw_m7 229 rfl) rfl
theorem q1778 : (Jvm.Cond.laysFinal "SealCastsModel" "SealCastsModel" "all" "[I") ∈ lw_all := lw_g (lw_at lw_m7 230 rfl) rfl
theorem q1779 : (Jvm.Cond.soleField "SealCastsModel" "all") ∈ lw_all := lw_g (lw_at lw_m7 231 rfl) rfl
theorem q1780 : (Jvm.Cond.laysFinal "SealCastsModel" "SealCastsModel" "was" "[I") ∈ lw_all := lw_g (lw_at lw_m7 232 rfl) rfl
theorem q1781 : (Jvm.Cond.soleField "SealCastsModel" "was") ∈ lw_all := lw_g (lw_at lw_m7 233 rfl) rfl
theorem q1782 : (Jvm.Cond.lays "SealCastsModel" "SealCastsModel" "acts" "I") ∈ lw_all := lw_g (lw_at lw_m7 234 rfl) rfl
theorem q1783 : (Jvm.Cond.soleField "SealCastsModel" "acts") ∈ lw_all := lw_g (lw_at lw_m7 235 rfl) rfl
theorem q1784 : (Jvm.Cond.lays "SealCastsModel" "SealCastsModel" "undone" "I") ∈ lw_all := lw_g (lw_at lw_m7 236 rfl) rfl
theorem q1785 : (Jvm.Cond.soleField "SealCastsModel" "undone") ∈ lw_all := lw_g (lw_at lw_m7 237 rfl) rfl
theorem q1786 : (Jvm.Cond.laysFinal "SealCastsModel" "SealCastsModel" "drawn" "[I") ∈ lw_all := lw_g (lw_at lw_m7 238 rfl) rfl
theorem q1787 : (Jvm.Cond.soleField "SealCastsModel" "drawn") ∈ lw_all := lw_g (lw_at lw_m7 239 rfl) rfl
theorem q1788 : (Jvm.Cond.laysFinal "SealCastsModel" "SealCastsModel" "shareOf" "[I") ∈ lw_all := lw_g (lw_at lw_m8 0 rfl) rfl
theorem q1789 : (Jvm.Cond.soleField "SealCastsModel" "shareOf") ∈ lw_all := lw_g (lw_at lw_m8 1 rfl) rfl
theorem q1790 : (Jvm.Cond.laysFinal "SealCastsModel" "SealCastsModel" "restOf" "[I") ∈ lw_all := lw_g (lw_at lw_m8 2 rfl) rfl
theorem q1791 : (Jvm.Cond.soleField "SealCastsModel" "restOf") ∈ lw_all := lw_g (lw_at lw_m8 3 rfl) rfl
theorem q1792 : (Jvm.Cond.laysFinal "SealCastsModel" "SealCastsModel" "laidRow" "[I") ∈ lw_all := lw_g (lw_at lw_m8 4 rfl) rfl
theorem q1793 : (Jvm.Cond.soleField "SealCastsModel" "laidRow") ∈ lw_all := lw_g (lw_at lw_m8 5 rfl) rfl
theorem q1794 : (Jvm.Cond.lays "SealCastsModel" "SealCastsModel" "laid" "I") ∈ lw_all := lw_g (lw_at lw_m8 6 rfl) rfl
theorem q1795 : (Jvm.Cond.soleField "SealCastsModel" "laid") ∈ lw_all := lw_g (lw_at lw_m8 7 rfl) rfl
theorem q1796 : (Jvm.Cond.laysFinal "SealCastsModel" "SealCastsModel" "metAt" "[I") ∈ lw_all := lw_g (lw_at lw_m8 8 rfl) rfl
theorem q1797 : (Jvm.Cond.soleField "SealCastsModel" "metAt") ∈ lw_all := lw_g (lw_at lw_m8 9 rfl) rfl
theorem q1798 : (Jvm.Cond.laysFinal "SealCastsModel" "SealCastsModel" "still" "[I") ∈ lw_all := lw_g (lw_at lw_m8 10 rfl) rfl
theorem q1799 : (Jvm.Cond.soleField "SealCastsModel" "still") ∈ lw_all := lw_g (lw_at lw_m8 11 rfl) rfl
theorem q1800 : (Jvm.Cond.laysFinal "SealCastsModel" "SealCastsModel" "next" "[I") ∈ lw_all := lw_g (lw_at lw_m8 12 rfl) rfl
theorem q1801 : (Jvm.Cond.soleField "SealCastsModel" "next") ∈ lw_all := lw_g (lw_at lw_m8 13 rfl) rfl
theorem q1802 : (Jvm.Cond.laysFinal "SealCastsModel" "SealCastsModel" "fSort" "[I") ∈ lw_all := lw_g (lw_at lw_m8 14 rfl) rfl
theorem q1803 : (Jvm.Cond.soleField "SealCastsModel" "fSort") ∈ lw_all := lw_g (lw_at lw_m8 15 rfl) rfl
theorem q1804 : (Jvm.Cond.laysFinal "SealCastsModel" "SealCastsModel" "fOne" "[I") ∈ lw_all := lw_g (lw_at lw_m8 16 rfl) rfl
theorem q1805 : (Jvm.Cond.soleField "SealCastsModel" "fOne") ∈ lw_all := lw_g (lw_at lw_m8 17 rfl) rfl
theorem q1806 : (Jvm.Cond.laysFinal "SealCastsModel" "SealCastsModel" "fTwo" "[I") ∈ lw_all := lw_g (lw_at lw_m8 18 rfl) rfl
theorem q1807 : (Jvm.Cond.soleField "SealCastsModel" "fTwo") ∈ lw_all := lw_g (lw_at lw_m8 19 rfl) rfl
theorem q1808 : (Jvm.Cond.laysFinal "SealCastsModel" "SealCastsModel" "fThree" "[I") ∈ lw_all := lw_g (lw_at lw_m8 20 rfl) rfl
theorem q1809 : (Jvm.Cond.soleField "SealCastsModel" "fThree") ∈ lw_all := lw_g (lw_at lw_m8 21 rfl) rfl
theorem q1810 : (Jvm.Cond.laysFinal "SealCastsModel" "SealCastsModel" "fTold" "[I") ∈ lw_all := lw_g (lw_at lw_m8 22 rfl) rfl
theorem q1811 : (Jvm.Cond.soleField "SealCastsModel" "fTold") ∈ lw_all := lw_g (lw_at lw_m8 23 rfl) rfl
theorem q1812 : (Jvm.Cond.laysFinal "SealCastsModel" "SealCastsModel" "fUntold" "[I") ∈ lw_all := lw_g (lw_at lw_m8 24 rfl) rfl
theorem q1813 : (Jvm.Cond.soleField "SealCastsModel" "fUntold") ∈ lw_all := lw_g (lw_at lw_m8 25 rfl) rfl
theorem q1814 : (Jvm.Cond.lays "SealCastsModel" "SealCastsModel" "facts" "I") ∈ lw_all := lw_g (lw_at lw_m8 26 rfl) rfl
theorem q1815 : (Jvm.Cond.soleField "SealCastsModel" "facts") ∈ lw_all := lw_g (lw_at lw_m8 27 rfl) rfl
theorem q1816 : (Jvm.Cond.lays "SealCastsModel" "SealCastsModel" "time" "I") ∈ lw_all := lw_g (lw_at lw_m8 28 rfl) rfl
theorem q1817 : (Jvm.Cond.soleField "SealCastsModel" "time") ∈ lw_all := lw_g (lw_at lw_m8 29 rfl) rfl
theorem q1818 : (Jvm.Cond.laysFinal "SealCastsModel" "SealCastsModel" "treeRow" "[I") ∈ lw_all := lw_g (lw_at lw_m8 30 rfl) rfl
theorem q1819 : (Jvm.Cond.soleField "SealCastsModel" "treeRow") ∈ lw_all := lw_g (lw_at lw_m8 31 rfl) rfl
theorem q1820 : (Jvm.Cond.laysFinal "SealCastsModel" "SealCastsModel" "from" "[I") ∈ lw_all := lw_g (lw_at lw_m8 32 rfl) rfl
theorem q1821 : (Jvm.Cond.soleField "SealCastsModel" "from") ∈ lw_all := lw_g (lw_at lw_m8 33 rfl) rfl
theorem q1822 : (Jvm.Cond.laysFinal "SealCastsModel" "SealCastsModel" "change" "[I") ∈ lw_all := lw_g (lw_at lw_m8 34 rfl) rfl
theorem q1823 : (Jvm.Cond.soleField "SealCastsModel" "change") ∈ lw_all := lw_g (lw_at lw_m8 35 rfl) rfl
theorem q1824 : (Jvm.Cond.lays "SealCastsModel" "SealCastsModel" "treeMany" "I") ∈ lw_all := lw_g (lw_at lw_m8 36 rfl) rfl
theorem q1825 : (Jvm.Cond.soleField "SealCastsModel" "treeMany") ∈ lw_all := lw_g (lw_at lw_m8 37 rfl) rfl
theorem q1826 : (Jvm.Cond.laysFinal "SealCastsModel" "SealCastsModel" "clanOf" "[I") ∈ lw_all := lw_g (lw_at lw_m8 38 rfl) rfl
theorem q1827 : (Jvm.Cond.soleField "SealCastsModel" "clanOf") ∈ lw_all := lw_g (lw_at lw_m8 39 rfl) rfl
theorem q1828 : (Jvm.Cond.laysFinal "SealCastsModel" "SealCastsModel" "side" "[I") ∈ lw_all := lw_g (lw_at lw_m8 40 rfl) rfl
theorem q1829 : (Jvm.Cond.soleField "SealCastsModel" "side") ∈ lw_all := lw_g (lw_at lw_m8 41 rfl) rfl
theorem q1830 : (Jvm.Cond.laysFinal "SealCastsModel" "SealCastsModel" "group" "[I") ∈ lw_all := lw_g (lw_at lw_m8 42 rfl) rfl
theorem q1831 : (Jvm.Cond.soleField "SealCastsModel" "group") ∈ lw_all := lw_g (lw_at lw_m8 43 rfl) rfl
theorem q1832 : (Jvm.Cond.laysFinal "SealCastsModel" "SealCastsModel" "boxAll" "[I") ∈ lw_all := lw_g (lw_at lw_m8 44 rfl) rfl
theorem q1833 : (Jvm.Cond.soleField "SealCastsModel" "boxAll") ∈ lw_all := lw_g (lw_at lw_m8 45 rfl) rfl
theorem q1834 : (Jvm.Cond.laysFinal "SealCastsModel" "SealCastsModel" "isBoxed" "[Z") ∈ lw_all := lw_g (lw_at lw_m8 46 rfl) rfl
theorem q1835 : (Jvm.Cond.soleField "SealCastsModel" "isBoxed") ∈ lw_all := lw_g (lw_at lw_m8 47 rfl) rfl
theorem q1836 : (Jvm.Cond.superclass "SealCastsModel" "java/lang/Object") ∈ lw_all := lw_g (lw_at lw_m8 48 rfl) rfl
theorem q1839 : (Jvm.Cond.instanceMethod ({ cls := "SealCastsModel", name := "chancery", desc := "()I" } : Jvm.MethodName)) ∈ lw_all := lw_g (lw_at lw_m8 51 rfl) rfl
theorem q1840 : (Jvm.Cond.selects "SealCastsModel" ({ cls := "SealCastsModel", name := "chancery", desc := "()I" } : Jvm.MethodName) ({ cls := "SealCastsModel", name := "chancery", desc := "()I" } : Jvm.MethodName)) ∈ lw_all := lw_g (lw_at lw_m8 52 rfl) rfl
theorem q1841 : (Jvm.Cond.code ({ cls := "SealCastsModel", name := "chancery", desc := "()I" } : Jvm.MethodName) prog_27_method_16_code (2 : Nat) (Option.some Jvm.ClassFile.FieldType.int)) ∈ lw_all := lw_g (lw_at lw_m8 53 rfl) rfl
theorem q1842 : (Jvm.Cond.methodLink "SealCastsModel" (235 : Nat) ({ cls := "SealCastsModel", name := "goOn", desc := "()V" } : Jvm.MethodName)) ∈ lw_all := lw_g (lw_at lw_m8 54 rfl) rfl
theorem q1843 : (Jvm.Cond.privateMethod ({ cls := "SealCastsModel", name := "goOn", desc := "()V" } : Jvm.MethodName)) ∈ lw_tbl := lw_at lw_m8 55 rfl
theorem q1844 : (Jvm.Cond.instanceMethod ({ cls := "SealCastsModel", name := "goOn", desc := "()V" } : Jvm.MethodName)) ∈ lw_all := lw_g (lw_at lw_m8 56 rfl) rfl
theorem q1845 : (Jvm.Cond.code ({ cls := "SealCastsModel", name := "goOn", desc := "()V" } : Jvm.MethodName) prog_27_method_9_code (3 : Nat) (Option.none : Option Jvm.ClassFile.FieldType)) ∈ lw_all := lw_g (lw_at lw_m8 57 rfl) rfl
theorem q1846 : (Jvm.Cond.methodLink "SealCastsModel" (199 : Nat) ({ cls := "SealCastsModel", name := "sign", desc := "(I)I" } : Jvm.MethodName)) ∈ lw_all := lw_g (lw_at lw_m8 58 rfl) rfl
theorem q1847 : (Jvm.Cond.privateMethod ({ cls := "SealCastsModel", name := "sign", desc := "(I)I" } : Jvm.MethodName)) ∈ lw_tbl := lw_at lw_m8 59 rfl
theorem q1848 : (Jvm.Cond.instanceMethod ({ cls := "SealCastsModel", name := "sign", desc := "(I)I" } : Jvm.MethodName)) ∈ lw_all := lw_g (lw_at lw_m8 60 rfl) rfl
theorem q1849 : (Jvm.Cond.code ({ cls := "SealCastsModel", name := "sign", desc := "(I)I" } : Jvm.MethodName) prog_27_method_2_code (2 : Nat) (Option.some Jvm.ClassFile.FieldType.int)) ∈ lw_all := lw_g (lw_at lw_m8 61 rfl) rfl
theorem q1850 : (Jvm.Cond.methodLink "SealCastsModel" (206 : Nat) ({ cls := "SealCastsModel", name := "isLetter", desc := "(I)Z" } : Jvm.MethodName)) ∈ lw_all := lw_g (lw_at lw_m8 62 rfl) rfl
theorem q1851 : (Jvm.Cond.static ({ cls := "SealCastsModel", name := "isLetter", desc := "(I)Z" } : Jvm.MethodName)) ∈ lw_all := lw_g (lw_at lw_m8 63 rfl) rfl
theorem q1852 : (Jvm.Cond.code ({ cls := "SealCastsModel", name := "isLetter", desc := "(I)Z" } : Jvm.MethodName) prog_27_method_3_code (1 : Nat) (Option.some Jvm.ClassFile.FieldType.boolean)) ∈ lw_all := lw_g (lw_at lw_m8 64 rfl) rfl
theorem q1853 : (Jvm.Cond.methodLink "SealCastsModel" (214 : Nat) ({ cls := "SealCastsModel", name := "isKept", desc := "(J)Z" } : Jvm.MethodName)) ∈ lw_all := lw_g (lw_at lw_m8 65 rfl) rfl
theorem q1854 : (Jvm.Cond.static ({ cls := "SealCastsModel", name := "isKept", desc := "(J)Z" } : Jvm.MethodName)) ∈ lw_all := lw_g (lw_at lw_m8 66 rfl) rfl
theorem q1855 : (Jvm.Cond.code ({ cls := "SealCastsModel", name := "isKept", desc := "(J)Z" } : Jvm.MethodName) prog_27_method_7_code (3 : Nat) (Option.some Jvm.ClassFile.FieldType.boolean)) ∈ lw_all := lw_g (lw_at lw_m8 67 rfl) rfl
theorem q1856 : (Jvm.Cond.constantLong "SealCastsModel" (159 : Nat) (469786323827 : Int64)) ∈ lw_all := lw_g (lw_at lw_m8 68 rfl) rfl
theorem q1857 : (Jvm.Cond.constantLong "SealCastsModel" (161 : Nat) (439855772532 : Int64)) ∈ lw_all := lw_g (lw_at lw_m8 69 rfl) rfl
theorem q1858 : (Jvm.Cond.constantLong "SealCastsModel" (163 : Nat) (1751215716 : Int64)) ∈ lw_all := lw_g (lw_at lw_m8 70 rfl) rfl
theorem q1859 : (Jvm.Cond.constantLong "SealCastsModel" (165 : Nat) (512801993331 : Int64)) ∈ lw_all := lw_g (lw_at lw_m8 71 rfl) rfl
theorem q1860 : (Jvm.Cond.constantLong "SealCastsModel" (167 : Nat) (439855377523 : Int64)) ∈ lw_all := lw_g (lw_at lw_m8 72 rfl) rfl
theorem q1861 : (Jvm.Cond.constantLong "SealCastsModel" (169 : Nat) (7823736 : Int64)) ∈ lw_all := lw_g (lw_at lw_m8 73 rfl) rfl
theorem q1862 : (Jvm.Cond.constantLong "SealCastsModel" (171 : Nat) (1685217655 : Int64)) ∈ lw_all := lw_g (lw_at lw_m8 74 rfl) rfl
theorem q1863 : (Jvm.Cond.constantLong "SealCastsModel" (173 : Nat) (1835102827 : Int64)) ∈ lw_all := lw_g (lw_at lw_m8 75 rfl) rfl
theorem q1864 : (Jvm.Cond.constantLong "SealCastsModel" (175 : Nat) (6840691 : Int64)) ∈ lw_all := lw_g (lw_at lw_m8 76 rfl) rfl
theorem q1865 : (Jvm.Cond.constantLong "SealCastsModel" (177 : Nat) (1818584692 : Int64)) ∈ lw_all := lw_g (lw_at lw_m8 77 rfl) rfl
theorem q1866 : (Jvm.Cond.constantLong "SealCastsModel" (179 : Nat) (491394656372 : Int64)) ∈ lw_all := lw_g (lw_at lw_m8 78 rfl) rfl
theorem q1867 : (Jvm.Cond.constantLong "SealCastsModel" (181 : Nat) (1835101817 : Int64)) ∈ lw_all := lw_g (lw_at lw_m8 79 rfl) rfl
theorem q1868 : (Jvm.Cond.constantLong "SealCastsModel" (183 : Nat) (2036687218 : Int64)) ∈ lw_all := lw_g (lw_at lw_m8 80 rfl) rfl
theorem q1869 : (Jvm.Cond.constantLong "SealCastsModel" (185 : Nat) (1751474548 : Int64)) ∈ lw_all := lw_g (lw_at lw_m8 81 rfl) rfl
theorem q1870 : (Jvm.Cond.constantLong "SealCastsModel" (187 : Nat) (28530 : Int64)) ∈ lw_all := lw_g (lw_at lw_m8 82 rfl) rfl
theorem q1871 : (Jvm.Cond.constantLong "SealCastsModel" (189 : Nat) (6385252 : Int64)) ∈ lw_all := lw_g (lw_at lw_m8 83 rfl) rfl
theorem q1872 : (Jvm.Cond.constantLong "SealCastsModel" (191 : Nat) (7237492 : Int64)) ∈ lw_all := lw_g (lw_at lw_m8 84 rfl) rfl
theorem q1873 : (Jvm.Cond.methodLink "SealCastsModel" (218 : Nat) ({ cls := "SealCastsModel", name := "isDigit", desc := "(I)Z" } : Jvm.MethodName)) ∈ lw_all := lw_g (lw_at lw_m8 85 rfl) rfl
theorem q1874 : (Jvm.Cond.static ({ cls := "SealCastsModel", name := "isDigit", desc := "(I)Z" } : Jvm.MethodName)) ∈ lw_all := lw_g (lw_at lw_m8 86 rfl) rfl
theorem q1875 : (Jvm.Cond.code ({ cls := "SealCastsModel", name := "isDigit", desc := "(I)Z" } : Jvm.MethodName) prog_27_method_4_code (1 : Nat) (Option.some Jvm.ClassFile.FieldType.boolean)) ∈ lw_all := lw_g (lw_at lw_m8 87 rfl) rfl
theorem q1876 : (Jvm.Cond.methodLink "SealCastsModel" (224 : Nat) ({ cls := "SealCastsModel", name := "isSign", desc := "(I)Z" } : Jvm.MethodName)) ∈ lw_all := lw_g (lw_at lw_m8 88 rfl) rfl
theorem q1877 : (Jvm.Cond.static ({ cls := "SealCastsModel", name := "isSign", desc := "(I)Z" } : Jvm.MethodName)) ∈ lw_all := lw_g (lw_at lw_m8 89 rfl) rfl
theorem q1878 : (Jvm.Cond.code ({ cls := "SealCastsModel", name := "isSign", desc := "(I)Z" } : Jvm.MethodName) prog_27_method_8_code (1 : Nat) (Option.some Jvm.ClassFile.FieldType.boolean)) ∈ lw_all := lw_g (lw_at lw_m8 90 rfl) rfl
theorem q1879 : (Jvm.Cond.methodLink "SealCastsModel" (231 : Nat) ({ cls := "SealCastsModel", name := "isGood", desc := "()Z" } : Jvm.MethodName)) ∈ lw_all := lw_g (lw_at lw_m8 91 rfl) rfl
theorem q1880 : (Jvm.Cond.privateMethod ({ cls := "SealCastsModel", name := "isGood", desc := "()Z" } : Jvm.MethodName)) ∈ lw_tbl := lw_at lw_m8 92 rfl
theorem q1881 : (Jvm.Cond.instanceMethod ({ cls := "SealCastsModel", name := "isGood", desc := "()Z" } : Jvm.MethodName)) ∈ lw_all := lw_g (lw_at lw_m8 93 rfl) rfl
theorem q1882 : (Jvm.Cond.code ({ cls := "SealCastsModel", name := "isGood", desc := "()Z" } : Jvm.MethodName) prog_27_method_6_code (1 : Nat) (Option.some Jvm.ClassFile.FieldType.boolean)) ∈ lw_all := lw_g (lw_at lw_m8 94 rfl) rfl
theorem q1883 : (Jvm.Cond.methodLink "SealCastsModel" (253 : Nat) ({ cls := "SealCastsModel", name := "readLine", desc := "()V" } : Jvm.MethodName)) ∈ lw_all := lw_g (lw_at lw_m8 95 rfl) rfl
theorem q1884 : (Jvm.Cond.privateMethod ({ cls := "SealCastsModel", name := "readLine", desc := "()V" } : Jvm.MethodName)) ∈ lw_tbl := lw_at lw_m8 96 rfl
theorem q1885 : (Jvm.Cond.instanceMethod ({ cls := "SealCastsModel", name := "readLine", desc := "()V" } : Jvm.MethodName)) ∈ lw_all := lw_g (lw_at lw_m8 97 rfl) rfl
theorem q1886 : (Jvm.Cond.code ({ cls := "SealCastsModel", name := "readLine", desc := "()V" } : Jvm.MethodName) prog_27_method_18_code (3 : Nat) (Option.none : Option Jvm.ClassFile.FieldType)) ∈ lw_all := lw_g (lw_at lw_m8 98 rfl) rfl
theorem q1887 : (Jvm.Cond.methodLink "SealCastsModel" (259 : Nat) ({ cls := "SealCastsModel", name := "isFull", desc := "()Z" } : Jvm.MethodName)) ∈ lw_all := lw_g (lw_at lw_m8 99 rfl) rfl
theorem q1888 : (Jvm.Cond.privateMethod ({ cls := "SealCastsModel", name := "isFull", desc := "()Z" } : Jvm.MethodName)) ∈ lw_tbl := lw_at lw_m8 100 rfl
theorem q1889 : (Jvm.Cond.instanceMethod ({ cls := "SealCastsModel", name := "isFull", desc := "()Z" } : Jvm.MethodName)) ∈ lw_all := lw_g (lw_at lw_m8 101 rfl) rfl
theorem q1890 : (Jvm.Cond.code ({ cls := "SealCastsModel", name := "isFull", desc := "()Z" } : Jvm.MethodName) prog_27_method_17_code (1 : Nat) (Option.some Jvm.ClassFile.FieldType.boolean)) ∈ lw_all := lw_g (lw_at lw_m8 102 rfl) rfl
theorem q1891 : (Jvm.Cond.methodLink "SealCastsModel" (256 : Nat) ({ cls := "SealCastsModel", name := "isWord", desc := "(J)Z" } : Jvm.MethodName)) ∈ lw_all := lw_g (lw_at lw_m8 103 rfl) rfl
theorem q1892 : (Jvm.Cond.privateMethod ({ cls := "SealCastsModel", name := "isWord", desc := "(J)Z" } : Jvm.MethodName)) ∈ lw_tbl := lw_at lw_m8 104 rfl
theorem q1893 : (Jvm.Cond.instanceMethod ({ cls := "SealCastsModel", name := "isWord", desc := "(J)Z" } : Jvm.MethodName)) ∈ lw_all := lw_g (lw_at lw_m8 105 rfl) rfl
theorem q1894 : (Jvm.Cond.code ({ cls := "SealCastsModel", name := "isWord", desc := "(J)Z" } : Jvm.MethodName) prog_27_method_11_code (3 : Nat) (Option.some Jvm.ClassFile.FieldType.boolean)) ∈ lw_all := lw_g (lw_at lw_m8 106 rfl) rfl
theorem q1895 : (Jvm.Cond.methodLink "SealCastsModel" (238 : Nat) ({ cls := "SealCastsModel", name := "misplaced", desc := "()V" } : Jvm.MethodName)) ∈ lw_all := lw_g (lw_at lw_m8 107 rfl) rfl
theorem q1896 : (Jvm.Cond.privateMethod ({ cls := "SealCastsModel", name := "misplaced", desc := "()V" } : Jvm.MethodName)) ∈ lw_tbl := lw_at lw_m8 108 rfl
theorem q1897 : (Jvm.Cond.instanceMethod ({ cls := "SealCastsModel", name := "misplaced", desc := "()V" } : Jvm.MethodName)) ∈ lw_all := lw_g (lw_at lw_m8 109 rfl) rfl
theorem q1898 : (Jvm.Cond.code ({ cls := "SealCastsModel", name := "misplaced", desc := "()V" } : Jvm.MethodName) prog_27_method_12_code (1 : Nat) (Option.none : Option Jvm.ClassFile.FieldType)) ∈ lw_all := lw_g (lw_at lw_m8 110 rfl) rfl
theorem q1899 : (Jvm.Cond.methodLink "SealCastsModel" (227 : Nat) ({ cls := "SealCastsModel", name := "fails", desc := "(II)V" } : Jvm.MethodName)) ∈ lw_all := lw_g (lw_at lw_m8 111 rfl) rfl
theorem q1900 : (Jvm.Cond.privateMethod ({ cls := "SealCastsModel", name := "fails", desc := "(II)V" } : Jvm.MethodName)) ∈ lw_tbl := lw_at lw_m8 112 rfl
theorem q1901 : (Jvm.Cond.instanceMethod ({ cls := "SealCastsModel", name := "fails", desc := "(II)V" } : Jvm.MethodName)) ∈ lw_all := lw_g (lw_at lw_m8 113 rfl) rfl
theorem q1902 : (Jvm.Cond.code ({ cls := "SealCastsModel", name := "fails", desc := "(II)V" } : Jvm.MethodName) prog_27_method_5_code (3 : Nat) (Option.none : Option Jvm.ClassFile.FieldType)) ∈ lw_all := lw_g (lw_at lw_m8 114 rfl) rfl
theorem q1903 : (Jvm.Cond.methodLink "SealCastsModel" (262 : Nat) ({ cls := "SealCastsModel", name := "numeral", desc := "(II)I" } : Jvm.MethodName)) ∈ lw_all := lw_g (lw_at lw_m8 115 rfl) rfl
theorem q1904 : (Jvm.Cond.privateMethod ({ cls := "SealCastsModel", name := "numeral", desc := "(II)I" } : Jvm.MethodName)) ∈ lw_tbl := lw_at lw_m8 116 rfl
theorem q1905 : (Jvm.Cond.instanceMethod ({ cls := "SealCastsModel", name := "numeral", desc := "(II)I" } : Jvm.MethodName)) ∈ lw_all := lw_g (lw_at lw_m8 117 rfl) rfl
theorem q1906 : (Jvm.Cond.code ({ cls := "SealCastsModel", name := "numeral", desc := "(II)I" } : Jvm.MethodName) prog_27_method_14_code (4 : Nat) (Option.some Jvm.ClassFile.FieldType.int)) ∈ lw_all := lw_g (lw_at lw_m8 118 rfl) rfl
theorem q1907 : (Jvm.Cond.methodLink "SealCastsModel" (266 : Nat) ({ cls := "SealCastsModel", name := "readFirst", desc := "()V" } : Jvm.MethodName)) ∈ lw_all := lw_g (lw_at lw_m8 119 rfl) rfl
theorem q1908 : (Jvm.Cond.privateMethod ({ cls := "SealCastsModel", name := "readFirst", desc := "()V" } : Jvm.MethodName)) ∈ lw_tbl := lw_at lw_m8 120 rfl
theorem q1909 : (Jvm.Cond.instanceMethod ({ cls := "SealCastsModel", name := "readFirst", desc := "()V" } : Jvm.MethodName)) ∈ lw_all := lw_g (lw_at lw_m8 121 rfl) rfl
theorem q1910 : (Jvm.Cond.code ({ cls := "SealCastsModel", name := "readFirst", desc := "()V" } : Jvm.MethodName) prog_27_method_19_code (4 : Nat) (Option.none : Option Jvm.ClassFile.FieldType)) ∈ lw_all := lw_g (lw_at lw_m8 122 rfl) rfl
theorem q1911 : (Jvm.Cond.methodLink "SealCastsModel" (269 : Nat) ({ cls := "SealCastsModel", name := "readHand", desc := "()V" } : Jvm.MethodName)) ∈ lw_all := lw_g (lw_at lw_m8 123 rfl) rfl
theorem q1912 : (Jvm.Cond.privateMethod ({ cls := "SealCastsModel", name := "readHand", desc := "()V" } : Jvm.MethodName)) ∈ lw_tbl := lw_at lw_m8 124 rfl
theorem q1913 : (Jvm.Cond.instanceMethod ({ cls := "SealCastsModel", name := "readHand", desc := "()V" } : Jvm.MethodName)) ∈ lw_all := lw_g (lw_at lw_m8 125 rfl) rfl
theorem q1914 : (Jvm.Cond.code ({ cls := "SealCastsModel", name := "readHand", desc := "()V" } : Jvm.MethodName) prog_27_method_21_code (2 : Nat) (Option.none : Option Jvm.ClassFile.FieldType)) ∈ lw_all := lw_g (lw_at lw_m8 126 rfl) rfl
theorem q1915 : (Jvm.Cond.methodLink "SealCastsModel" (279 : Nat) ({ cls := "SealCastsModel", name := "handHere", desc := "()I" } : Jvm.MethodName)) ∈ lw_all := lw_g (lw_at lw_m8 127 rfl) rfl
theorem q1916 : (Jvm.Cond.privateMethod ({ cls := "SealCastsModel", name := "handHere", desc := "()I" } : Jvm.MethodName)) ∈ lw_tbl := lw_at lw_m8 128 rfl
theorem q1917 : (Jvm.Cond.instanceMethod ({ cls := "SealCastsModel", name := "handHere", desc := "()I" } : Jvm.MethodName)) ∈ lw_all := lw_g (lw_at lw_m8 129 rfl) rfl
theorem q1918 : (Jvm.Cond.code ({ cls := "SealCastsModel", name := "handHere", desc := "()I" } : Jvm.MethodName) prog_27_method_20_code (2 : Nat) (Option.some Jvm.ClassFile.FieldType.int)) ∈ lw_all := lw_g (lw_at lw_m8 130 rfl) rfl
theorem q1919 : (Jvm.Cond.methodLink "SealCastsModel" (275 : Nat) ({ cls := "SealCastsModel", name := "must", desc := "(Z)V" } : Jvm.MethodName)) ∈ lw_all := lw_g (lw_at lw_m8 131 rfl) rfl
theorem q1920 : (Jvm.Cond.privateMethod ({ cls := "SealCastsModel", name := "must", desc := "(Z)V" } : Jvm.MethodName)) ∈ lw_tbl := lw_at lw_m8 132 rfl
theorem q1921 : (Jvm.Cond.instanceMethod ({ cls := "SealCastsModel", name := "must", desc := "(Z)V" } : Jvm.MethodName)) ∈ lw_all := lw_g (lw_at lw_m8 133 rfl) rfl
theorem q1922 : (Jvm.Cond.code ({ cls := "SealCastsModel", name := "must", desc := "(Z)V" } : Jvm.MethodName) prog_27_method_13_code (2 : Nat) (Option.none : Option Jvm.ClassFile.FieldType)) ∈ lw_all := lw_g (lw_at lw_m8 134 rfl) rfl
theorem q1923 : (Jvm.Cond.methodLink "SealCastsModel" (283 : Nat) ({ cls := "SealCastsModel", name := "readRule", desc := "(I)V" } : Jvm.MethodName)) ∈ lw_all := lw_g (lw_at lw_m8 135 rfl) rfl
theorem q1924 : (Jvm.Cond.privateMethod ({ cls := "SealCastsModel", name := "readRule", desc := "(I)V" } : Jvm.MethodName)) ∈ lw_tbl := lw_at lw_m8 136 rfl
theorem q1925 : (Jvm.Cond.instanceMethod ({ cls := "SealCastsModel", name := "readRule", desc := "(I)V" } : Jvm.MethodName)) ∈ lw_all := lw_g (lw_at lw_m8 137 rfl) rfl
theorem q1926 : (Jvm.Cond.code ({ cls := "SealCastsModel", name := "readRule", desc := "(I)V" } : Jvm.MethodName) prog_27_method_22_code (2 : Nat) (Option.none : Option Jvm.ClassFile.FieldType)) ∈ lw_all := lw_g (lw_at lw_m8 138 rfl) rfl
theorem q1927 : (Jvm.Cond.methodLink "SealCastsModel" (290 : Nat) ({ cls := "SealCastsModel", name := "e", desc := "()V" } : Jvm.MethodName)) ∈ lw_all := lw_g (lw_at lw_m8 139 rfl) rfl
theorem q1928 : (Jvm.Cond.privateMethod ({ cls := "SealCastsModel", name := "e", desc := "()V" } : Jvm.MethodName)) ∈ lw_tbl := lw_at lw_m8 140 rfl
theorem q1929 : (Jvm.Cond.instanceMethod ({ cls := "SealCastsModel", name := "e", desc := "()V" } : Jvm.MethodName)) ∈ lw_all := lw_g (lw_at lw_m8 141 rfl) rfl
theorem q1930 : (Jvm.Cond.code ({ cls := "SealCastsModel", name := "e", desc := "()V" } : Jvm.MethodName) prog_27_method_25_code (2 : Nat) (Option.none : Option Jvm.ClassFile.FieldType)) ∈ lw_all := lw_g (lw_at lw_m8 142 rfl) rfl
theorem q1931 : (Jvm.Cond.methodLink "SealCastsModel" (299 : Nat) ({ cls := "SealCastsModel", name := "pushE", desc := "(II)V" } : Jvm.MethodName)) ∈ lw_all := lw_g (lw_at lw_m8 143 rfl) rfl
theorem q1932 : (Jvm.Cond.privateMethod ({ cls := "SealCastsModel", name := "pushE", desc := "(II)V" } : Jvm.MethodName)) ∈ lw_tbl := lw_at lw_m8 144 rfl
theorem q1933 : (Jvm.Cond.instanceMethod ({ cls := "SealCastsModel", name := "pushE", desc := "(II)V" } : Jvm.MethodName)) ∈ lw_all := lw_g (lw_at lw_m8 145 rfl) rfl
theorem q1934 : (Jvm.Cond.code ({ cls := "SealCastsModel", name := "pushE", desc := "(II)V" } : Jvm.MethodName) prog_27_method_24_code (3 : Nat) (Option.none : Option Jvm.ClassFile.FieldType)) ∈ lw_all := lw_g (lw_at lw_m8 146 rfl) rfl
theorem q1935 : (Jvm.Cond.methodLink "SealCastsModel" (302 : Nat) ({ cls := "SealCastsModel", name := "unit", desc := "()Z" } : Jvm.MethodName)) ∈ lw_all := lw_g (lw_at lw_m8 147 rfl) rfl
theorem q1936 : (Jvm.Cond.privateMethod ({ cls := "SealCastsModel", name := "unit", desc := "()Z" } : Jvm.MethodName)) ∈ lw_tbl := lw_at lw_m8 148 rfl
theorem q1937 : (Jvm.Cond.instanceMethod ({ cls := "SealCastsModel", name := "unit", desc := "()Z" } : Jvm.MethodName)) ∈ lw_all := lw_g (lw_at lw_m8 149 rfl) rfl
theorem q1938 : (Jvm.Cond.code ({ cls := "SealCastsModel", name := "unit", desc := "()Z" } : Jvm.MethodName) prog_27_method_27_code (7 : Nat) (Option.some Jvm.ClassFile.FieldType.boolean)) ∈ lw_all := lw_g (lw_at lw_m8 150 rfl) rfl
theorem q1939 : (Jvm.Cond.methodLink "SealCastsModel" (272 : Nat) ({ cls := "SealCastsModel", name := "isSignHere", desc := "(I)Z" } : Jvm.MethodName)) ∈ lw_all := lw_g (lw_at lw_m8 151 rfl) rfl
theorem q1940 : (Jvm.Cond.privateMethod ({ cls := "SealCastsModel", name := "isSignHere", desc := "(I)Z" } : Jvm.MethodName)) ∈ lw_tbl := lw_at lw_m8 152 rfl
theorem q1941 : (Jvm.Cond.instanceMethod ({ cls := "SealCastsModel", name := "isSignHere", desc := "(I)Z" } : Jvm.MethodName)) ∈ lw_all := lw_g (lw_at lw_m8 153 rfl) rfl
theorem q1942 : (Jvm.Cond.code ({ cls := "SealCastsModel", name := "isSignHere", desc := "(I)Z" } : Jvm.MethodName) prog_27_method_10_code (2 : Nat) (Option.some Jvm.ClassFile.FieldType.boolean)) ∈ lw_all := lw_g (lw_at lw_m8 154 rfl) rfl
theorem q1943 : (Jvm.Cond.methodLink "SealCastsModel" (308 : Nat) ({ cls := "SealCastsModel", name := "wordHere", desc := "()I" } : Jvm.MethodName)) ∈ lw_all := lw_g (lw_at lw_m8 155 rfl) rfl
theorem q1944 : (Jvm.Cond.privateMethod ({ cls := "SealCastsModel", name := "wordHere", desc := "()I" } : Jvm.MethodName)) ∈ lw_tbl := lw_at lw_m8 156 rfl
theorem q1945 : (Jvm.Cond.instanceMethod ({ cls := "SealCastsModel", name := "wordHere", desc := "()I" } : Jvm.MethodName)) ∈ lw_all := lw_g (lw_at lw_m8 157 rfl) rfl
theorem q1946 : (Jvm.Cond.code ({ cls := "SealCastsModel", name := "wordHere", desc := "()I" } : Jvm.MethodName) prog_27_method_26_code (1 : Nat) (Option.some Jvm.ClassFile.FieldType.int)) ∈ lw_all := lw_g (lw_at lw_m8 158 rfl) rfl
theorem q1947 : (Jvm.Cond.methodLink "SealCastsModel" (311 : Nat) ({ cls := "SealCastsModel", name := "emit", desc := "(II)V" } : Jvm.MethodName)) ∈ lw_all := lw_g (lw_at lw_m8 159 rfl) rfl
theorem q1948 : (Jvm.Cond.privateMethod ({ cls := "SealCastsModel", name := "emit", desc := "(II)V" } : Jvm.MethodName)) ∈ lw_tbl := lw_at lw_m8 160 rfl
theorem q1949 : (Jvm.Cond.instanceMethod ({ cls := "SealCastsModel", name := "emit", desc := "(II)V" } : Jvm.MethodName)) ∈ lw_all := lw_g (lw_at lw_m8 161 rfl) rfl
theorem q1950 : (Jvm.Cond.code ({ cls := "SealCastsModel", name := "emit", desc := "(II)V" } : Jvm.MethodName) prog_27_method_23_code (3 : Nat) (Option.none : Option Jvm.ClassFile.FieldType)) ∈ lw_all := lw_g (lw_at lw_m8 162 rfl) rfl
theorem q1951 : (Jvm.Cond.methodLink "SealCastsModel" (305 : Nat) ({ cls := "SealCastsModel", name := "behindUnit", desc := "()Z" } : Jvm.MethodName)) ∈ lw_all := lw_g (lw_at lw_m8 163 rfl) rfl
theorem q1952 : (Jvm.Cond.privateMethod ({ cls := "SealCastsModel", name := "behindUnit", desc := "()Z" } : Jvm.MethodName)) ∈ lw_tbl := lw_at lw_m8 164 rfl
theorem q1953 : (Jvm.Cond.instanceMethod ({ cls := "SealCastsModel", name := "behindUnit", desc := "()Z" } : Jvm.MethodName)) ∈ lw_all := lw_g (lw_at lw_m8 165 rfl) rfl
theorem q1954 : (Jvm.Cond.code ({ cls := "SealCastsModel", name := "behindUnit", desc := "()Z" } : Jvm.MethodName) prog_27_method_30_code (2 : Nat) (Option.some Jvm.ClassFile.FieldType.boolean)) ∈ lw_all := lw_g (lw_at lw_m8 166 rfl) rfl
theorem q1955 : (Jvm.Cond.methodLink "SealCastsModel" (314 : Nat) ({ cls := "SealCastsModel", name := "rankHere", desc := "()I" } : Jvm.MethodName)) ∈ lw_all := lw_g (lw_at lw_m8 167 rfl) rfl
theorem q1956 : (Jvm.Cond.privateMethod ({ cls := "SealCastsModel", name := "rankHere", desc := "()I" } : Jvm.MethodName)) ∈ lw_tbl := lw_at lw_m8 168 rfl
theorem q1957 : (Jvm.Cond.instanceMethod ({ cls := "SealCastsModel", name := "rankHere", desc := "()I" } : Jvm.MethodName)) ∈ lw_all := lw_g (lw_at lw_m8 169 rfl) rfl
theorem q1958 : (Jvm.Cond.code ({ cls := "SealCastsModel", name := "rankHere", desc := "()I" } : Jvm.MethodName) prog_27_method_28_code (1 : Nat) (Option.some Jvm.ClassFile.FieldType.int)) ∈ lw_all := lw_g (lw_at lw_m8 170 rfl) rfl
theorem q1959 : (Jvm.Cond.methodLink "SealCastsModel" (317 : Nat) ({ cls := "SealCastsModel", name := "isCompared", desc := "()Z" } : Jvm.MethodName)) ∈ lw_all := lw_g (lw_at lw_m8 171 rfl) rfl
theorem q1960 : (Jvm.Cond.privateMethod ({ cls := "SealCastsModel", name := "isCompared", desc := "()Z" } : Jvm.MethodName)) ∈ lw_tbl := lw_at lw_m8 172 rfl
theorem q1961 : (Jvm.Cond.instanceMethod ({ cls := "SealCastsModel", name := "isCompared", desc := "()Z" } : Jvm.MethodName)) ∈ lw_all := lw_g (lw_at lw_m8 173 rfl) rfl
theorem q1962 : (Jvm.Cond.code ({ cls := "SealCastsModel", name := "isCompared", desc := "()Z" } : Jvm.MethodName) prog_27_method_29_code (2 : Nat) (Option.some Jvm.ClassFile.FieldType.boolean)) ∈ lw_all := lw_g (lw_at lw_m8 174 rfl) rfl
theorem q1964 : (Jvm.Cond.instanceMethod ({ cls := "SealCastsModel", name := "fault", desc := "(I)I" } : Jvm.MethodName)) ∈ lw_all := lw_g (lw_at lw_m8 176 rfl) rfl
theorem q1965 : (Jvm.Cond.selects "SealCastsModel" ({ cls := "SealCastsModel", name := "fault", desc := "(I)I" } : Jvm.MethodName) ({ cls := "SealCastsModel", name := "fault", desc := "(I)I" } : Jvm.MethodName)) ∈ lw_all := lw_g (lw_at lw_m8 177 rfl) rfl
theorem q1966 : (Jvm.Cond.code ({ cls := "SealCastsModel", name := "fault", desc := "(I)I" } : Jvm.MethodName) prog_27_method_34_code (2 : Nat) (Option.some Jvm.ClassFile.FieldType.int)) ∈ lw_all := lw_g (lw_at lw_m8 178 rfl) rfl
theorem q1968 : (Jvm.Cond.instanceMethod ({ cls := "SealCastsModel", name := "turned", desc := "(I)I" } : Jvm.MethodName)) ∈ lw_all := lw_g (lw_at lw_m8 180 rfl) rfl
theorem q1969 : (Jvm.Cond.selects "SealCastsModel" ({ cls := "SealCastsModel", name := "turned", desc := "(I)I" } : Jvm.MethodName) ({ cls := "SealCastsModel", name := "turned", desc := "(I)I" } : Jvm.MethodName)) ∈ lw_all := lw_g (lw_at lw_m8 181 rfl) rfl
theorem q1970 : (Jvm.Cond.code ({ cls := "SealCastsModel", name := "turned", desc := "(I)I" } : Jvm.MethodName) prog_27_method_45_code (2 : Nat) (Option.some Jvm.ClassFile.FieldType.int)) ∈ lw_all := lw_g (lw_at lw_m8 182 rfl) rfl
theorem q1971 : (Jvm.Cond.methodLink "SealCastsModel" (358 : Nat) ({ cls := "SealCastsModel", name := "isRow", desc := "(I)Z" } : Jvm.MethodName)) ∈ lw_all := lw_g (lw_at lw_m8 183 rfl) rfl
theorem q1972 : (Jvm.Cond.privateMethod ({ cls := "SealCastsModel", name := "isRow", desc := "(I)Z" } : Jvm.MethodName)) ∈ lw_tbl := lw_at lw_m8 184 rfl
theorem q1973 : (Jvm.Cond.instanceMethod ({ cls := "SealCastsModel", name := "isRow", desc := "(I)Z" } : Jvm.MethodName)) ∈ lw_all := lw_g (lw_at lw_m8 185 rfl) rfl
theorem q1974 : (Jvm.Cond.code ({ cls := "SealCastsModel", name := "isRow", desc := "(I)Z" } : Jvm.MethodName) prog_27_method_38_code (2 : Nat) (Option.some Jvm.ClassFile.FieldType.boolean)) ∈ lw_all := lw_g (lw_at lw_m8 186 rfl) rfl
theorem q1975 : (Jvm.Cond.methodLink "SealCastsModel" (342 : Nat) ({ cls := "SealCastsModel", name := "width", desc := "()I" } : Jvm.MethodName)) ∈ lw_all := lw_g (lw_at lw_m8 187 rfl) rfl
theorem q1976 : (Jvm.Cond.privateMethod ({ cls := "SealCastsModel", name := "width", desc := "()I" } : Jvm.MethodName)) ∈ lw_tbl := lw_at lw_m8 188 rfl
theorem q1977 : (Jvm.Cond.instanceMethod ({ cls := "SealCastsModel", name := "width", desc := "()I" } : Jvm.MethodName)) ∈ lw_all := lw_g (lw_at lw_m8 189 rfl) rfl
theorem q1978 : (Jvm.Cond.code ({ cls := "SealCastsModel", name := "width", desc := "()I" } : Jvm.MethodName) prog_27_method_37_code (1 : Nat) (Option.some Jvm.ClassFile.FieldType.int)) ∈ lw_all := lw_g (lw_at lw_m8 190 rfl) rfl
theorem q1979 : (Jvm.Cond.methodLink "SealCastsModel" (349 : Nat) ({ cls := "SealCastsModel", name := "turnedRow", desc := "(I)I" } : Jvm.MethodName)) ∈ lw_all := lw_g (lw_at lw_m8 191 rfl) rfl
theorem q1980 : (Jvm.Cond.privateMethod ({ cls := "SealCastsModel", name := "turnedRow", desc := "(I)I" } : Jvm.MethodName)) ∈ lw_tbl := lw_at lw_m8 192 rfl
theorem q1981 : (Jvm.Cond.instanceMethod ({ cls := "SealCastsModel", name := "turnedRow", desc := "(I)I" } : Jvm.MethodName)) ∈ lw_all := lw_g (lw_at lw_m8 193 rfl) rfl
theorem q1982 : (Jvm.Cond.code ({ cls := "SealCastsModel", name := "turnedRow", desc := "(I)I" } : Jvm.MethodName) prog_27_method_43_code (4 : Nat) (Option.some Jvm.ClassFile.FieldType.int)) ∈ lw_all := lw_g (lw_at lw_m8 194 rfl) rfl
theorem q1984 : (Jvm.Cond.instanceMethod ({ cls := "SealCastsModel", name := "would", desc := "(IIII)I" } : Jvm.MethodName)) ∈ lw_all := lw_g (lw_at lw_m8 196 rfl) rfl
theorem q1985 : (Jvm.Cond.selects "SealCastsModel" ({ cls := "SealCastsModel", name := "would", desc := "(IIII)I" } : Jvm.MethodName) ({ cls := "SealCastsModel", name := "would", desc := "(IIII)I" } : Jvm.MethodName)) ∈ lw_all := lw_g (lw_at lw_m8 197 rfl) rfl
theorem q1986 : (Jvm.Cond.code ({ cls := "SealCastsModel", name := "would", desc := "(IIII)I" } : Jvm.MethodName) prog_27_method_46_code (5 : Nat) (Option.some Jvm.ClassFile.FieldType.int)) ∈ lw_all := lw_g (lw_at lw_m8 198 rfl) rfl
theorem q1987 : (Jvm.Cond.methodLink "SealCastsModel" (361 : Nat) ({ cls := "SealCastsModel", name := "isHand", desc := "(I)Z" } : Jvm.MethodName)) ∈ lw_all := lw_g (lw_at lw_m8 199 rfl) rfl
theorem q1988 : (Jvm.Cond.privateMethod ({ cls := "SealCastsModel", name := "isHand", desc := "(I)Z" } : Jvm.MethodName)) ∈ lw_tbl := lw_at lw_m8 200 rfl
theorem q1989 : (Jvm.Cond.instanceMethod ({ cls := "SealCastsModel", name := "isHand", desc := "(I)Z" } : Jvm.MethodName)) ∈ lw_all := lw_g (lw_at lw_m8 201 rfl) rfl
theorem q1990 : (Jvm.Cond.code ({ cls := "SealCastsModel", name := "isHand", desc := "(I)Z" } : Jvm.MethodName) prog_27_method_39_code (2 : Nat) (Option.some Jvm.ClassFile.FieldType.boolean)) ∈ lw_all := lw_g (lw_at lw_m8 202 rfl) rfl
theorem q1991 : (Jvm.Cond.methodLink "SealCastsModel" (345 : Nat) ({ cls := "SealCastsModel", name := "isIn", desc := "(III)Z" } : Jvm.MethodName)) ∈ lw_all := lw_g (lw_at lw_m8 203 rfl) rfl
theorem q1992 : (Jvm.Cond.static ({ cls := "SealCastsModel", name := "isIn", desc := "(III)Z" } : Jvm.MethodName)) ∈ lw_all := lw_g (lw_at lw_m8 204 rfl) rfl
theorem q1993 : (Jvm.Cond.code ({ cls := "SealCastsModel", name := "isIn", desc := "(III)Z" } : Jvm.MethodName) prog_27_method_35_code (3 : Nat) (Option.some Jvm.ClassFile.FieldType.boolean)) ∈ lw_all := lw_g (lw_at lw_m8 205 rfl) rfl
theorem q1994 : (Jvm.Cond.methodLink "SealCastsModel" (364 : Nat) ({ cls := "SealCastsModel", name := "isHeat", desc := "(I)Z" } : Jvm.MethodName)) ∈ lw_all := lw_g (lw_at lw_m8 206 rfl) rfl
theorem q1995 : (Jvm.Cond.static ({ cls := "SealCastsModel", name := "isHeat", desc := "(I)Z" } : Jvm.MethodName)) ∈ lw_all := lw_g (lw_at lw_m8 207 rfl) rfl
theorem q1996 : (Jvm.Cond.code ({ cls := "SealCastsModel", name := "isHeat", desc := "(I)Z" } : Jvm.MethodName) prog_27_method_41_code (1 : Nat) (Option.some Jvm.ClassFile.FieldType.boolean)) ∈ lw_all := lw_g (lw_at lw_m8 208 rfl) rfl
theorem q1997 : (Jvm.Cond.methodLink "SealCastsModel" (367 : Nat) ({ cls := "SealCastsModel", name := "castOf", desc := "(IIII)I" } : Jvm.MethodName)) ∈ lw_all := lw_g (lw_at lw_m8 209 rfl) rfl
theorem q1998 : (Jvm.Cond.privateMethod ({ cls := "SealCastsModel", name := "castOf", desc := "(IIII)I" } : Jvm.MethodName)) ∈ lw_tbl := lw_at lw_m8 210 rfl
theorem q1999 : (Jvm.Cond.instanceMethod ({ cls := "SealCastsModel", name := "castOf", desc := "(IIII)I" } : Jvm.MethodName)) ∈ lw_all := lw_g (lw_at lw_m8 211 rfl) rfl
theorem q2000 : (Jvm.Cond.code ({ cls := "SealCastsModel", name := "castOf", desc := "(IIII)I" } : Jvm.MethodName) prog_27_method_44_code (9 : Nat) (Option.some Jvm.ClassFile.FieldType.int)) ∈ lw_all := lw_g (lw_at lw_m8 212 rfl) rfl
theorem q2001 : (Jvm.Cond.methodLink "SealCastsModel" (352 : Nat) ({ cls := "SealCastsModel", name := "bitsOf", desc := "(I)I" } : Jvm.MethodName)) ∈ lw_all := lw_g (lw_at lw_m8 213 rfl) rfl
theorem q2002 : (Jvm.Cond.static ({ cls := "SealCastsModel", name := "bitsOf", desc := "(I)I" } : Jvm.MethodName)) ∈ lw_all := lw_g (lw_at lw_m8 214 rfl) rfl
theorem q2003 : (Jvm.Cond.code ({ cls := "SealCastsModel", name := "bitsOf", desc := "(I)I" } : Jvm.MethodName) prog_27_method_36_code (3 : Nat) (Option.some Jvm.ClassFile.FieldType.int)) ∈ lw_all := lw_g (lw_at lw_m8 215 rfl) rfl
theorem q2004 : (Jvm.Cond.methodLink "SealCastsModel" (355 : Nat) ({ cls := "SealCastsModel", name := "comes", desc := "(I)I" } : Jvm.MethodName)) ∈ lw_all := lw_g (lw_at lw_m8 216 rfl) rfl
theorem q2005 : (Jvm.Cond.privateMethod ({ cls := "SealCastsModel", name := "comes", desc := "(I)I" } : Jvm.MethodName)) ∈ lw_tbl := lw_at lw_m8 217 rfl
theorem q2006 : (Jvm.Cond.instanceMethod ({ cls := "SealCastsModel", name := "comes", desc := "(I)I" } : Jvm.MethodName)) ∈ lw_all := lw_g (lw_at lw_m8 218 rfl) rfl
theorem q2007 : (Jvm.Cond.code ({ cls := "SealCastsModel", name := "comes", desc := "(I)I" } : Jvm.MethodName) prog_27_method_33_code (5 : Nat) (Option.some Jvm.ClassFile.FieldType.int)) ∈ lw_all := lw_g (lw_at lw_m8 219 rfl) rfl
theorem q2008 : (Jvm.Cond.methodLink "SealCastsModel" (335 : Nat) ({ cls := "SealCastsModel", name := "asked", desc := "(II)I" } : Jvm.MethodName)) ∈ lw_all := lw_g (lw_at lw_m8 220 rfl) rfl
theorem q2009 : (Jvm.Cond.privateMethod ({ cls := "SealCastsModel", name := "asked", desc := "(II)I" } : Jvm.MethodName)) ∈ lw_tbl := lw_at lw_m8 221 rfl
theorem q2010 : (Jvm.Cond.instanceMethod ({ cls := "SealCastsModel", name := "asked", desc := "(II)I" } : Jvm.MethodName)) ∈ lw_all := lw_g (lw_at lw_m8 222 rfl) rfl
theorem q2011 : (Jvm.Cond.code ({ cls := "SealCastsModel", name := "asked", desc := "(II)I" } : Jvm.MethodName) prog_27_method_32_code (3 : Nat) (Option.some Jvm.ClassFile.FieldType.int)) ∈ lw_all := lw_g (lw_at lw_m8 223 rfl) rfl
theorem q2012 : (Jvm.Cond.methodLink "SealCastsModel" (338 : Nat) ({ cls := "SealCastsModel", name := "two", desc := "(III)I" } : Jvm.MethodName)) ∈ lw_all := lw_g (lw_at lw_m8 224 rfl) rfl
theorem q2013 : (Jvm.Cond.static ({ cls := "SealCastsModel", name := "two", desc := "(III)I" } : Jvm.MethodName)) ∈ lw_all := lw_g (lw_at lw_m8 225 rfl) rfl
theorem q2014 : (Jvm.Cond.code ({ cls := "SealCastsModel", name := "two", desc := "(III)I" } : Jvm.MethodName) prog_27_method_31_code (3 : Nat) (Option.some Jvm.ClassFile.FieldType.int)) ∈ lw_all := lw_g (lw_at lw_m8 226 rfl) rfl
theorem q2016 : (Jvm.Cond.instanceMethod ({ cls := "SealCastsModel", name := "seal", desc := "(II)I" } : Jvm.MethodName)) ∈ lw_all := lw_g (lw_at lw_m8 228 rfl) rfl
theorem q2017 : (Jvm.Cond.selects "SealCastsModel" ({ cls := "SealCastsModel", name := "seal", desc := "(II)I" } : Jvm.MethodName) ({ cls := "SealCastsModel", name := "seal", desc := "(II)I" } : Jvm.MethodName)) ∈ lw_all := lw_g (lw_at lw_m8 229 rfl) rfl
theorem q2018 : (Jvm.Cond.code ({ cls := "SealCastsModel", name := "seal", desc := "(II)I" } : Jvm.MethodName) prog_27_method_49_code (3 : Nat) (Option.some Jvm.ClassFile.FieldType.int)) ∈ lw_all := lw_g (lw_at lw_m8 230 rfl) rfl
theorem q2019 : (Jvm.Cond.methodLink "SealCastsModel" (383 : Nat) ({ cls := "SealCastsModel", name := "isSeal", desc := "(I)Z" } : Jvm.MethodName)) ∈ lw_all := lw_g (lw_at lw_m8 231 rfl) rfl
theorem q2020 : (Jvm.Cond.privateMethod ({ cls := "SealCastsModel", name := "isSeal", desc := "(I)Z" } : Jvm.MethodName)) ∈ lw_tbl := lw_at lw_m8 232 rfl
theorem q2021 : (Jvm.Cond.instanceMethod ({ cls := "SealCastsModel", name := "isSeal", desc := "(I)Z" } : Jvm.MethodName)) ∈ lw_all := lw_g (lw_at lw_m8 233 rfl) rfl
theorem q2022 : (Jvm.Cond.code ({ cls := "SealCastsModel", name := "isSeal", desc := "(I)Z" } : Jvm.MethodName) prog_27_method_40_code (2 : Nat) (Option.some Jvm.ClassFile.FieldType.boolean)) ∈ lw_all := lw_g (lw_at lw_m8 234 rfl) rfl
theorem q2023 : (Jvm.Cond.methodLink "SealCastsModel" (386 : Nat) ({ cls := "SealCastsModel", name := "deep", desc := "(I)I" } : Jvm.MethodName)) ∈ lw_all := lw_g (lw_at lw_m8 235 rfl) rfl
theorem q2024 : (Jvm.Cond.privateMethod ({ cls := "SealCastsModel", name := "deep", desc := "(I)I" } : Jvm.MethodName)) ∈ lw_tbl := lw_at lw_m8 236 rfl
theorem q2025 : (Jvm.Cond.instanceMethod ({ cls := "SealCastsModel", name := "deep", desc := "(I)I" } : Jvm.MethodName)) ∈ lw_all := lw_g (lw_at lw_m8 237 rfl) rfl
theorem q2026 : (Jvm.Cond.code ({ cls := "SealCastsModel", name := "deep", desc := "(I)I" } : Jvm.MethodName) prog_27_method_48_code (4 : Nat) (Option.some Jvm.ClassFile.FieldType.int)) ∈ lw_all := lw_g (lw_at lw_m8 238 rfl) rfl
theorem q2028 : (Jvm.Cond.instanceMethod ({ cls := "SealCastsModel", name := "shown", desc := "(II)I" } : Jvm.MethodName)) ∈ lw_all := lw_g (lw_at lw_m9 0 rfl) rfl
theorem q2029 : (Jvm.Cond.selects "SealCastsModel" ({ cls := "SealCastsModel", name := "shown", desc := "(II)I" } : Jvm.MethodName) ({ cls := "SealCastsModel", name := "shown", desc := "(II)I" } : Jvm.MethodName)) ∈ lw_all := lw_g (lw_at lw_m9 1 rfl) rfl
theorem q2030 : (Jvm.Cond.code ({ cls := "SealCastsModel", name := "shown", desc := "(II)I" } : Jvm.MethodName) prog_27_method_50_code (3 : Nat) (Option.some Jvm.ClassFile.FieldType.int)) ∈ lw_all := lw_g (lw_at lw_m9 2 rfl) rfl
theorem q2032 : (Jvm.Cond.instanceMethod ({ cls := "SealCastsModel", name := "prints", desc := "(II)I" } : Jvm.MethodName)) ∈ lw_all := lw_g (lw_at lw_m9 4 rfl) rfl
theorem q2033 : (Jvm.Cond.selects "SealCastsModel" ({ cls := "SealCastsModel", name := "prints", desc := "(II)I" } : Jvm.MethodName) ({ cls := "SealCastsModel", name := "prints", desc := "(II)I" } : Jvm.MethodName)) ∈ lw_all := lw_g (lw_at lw_m9 5 rfl) rfl
theorem q2034 : (Jvm.Cond.code ({ cls := "SealCastsModel", name := "prints", desc := "(II)I" } : Jvm.MethodName) prog_27_method_51_code (7 : Nat) (Option.some Jvm.ClassFile.FieldType.int)) ∈ lw_all := lw_g (lw_at lw_m9 6 rfl) rfl
theorem q2036 : (Jvm.Cond.instanceMethod ({ cls := "SealCastsModel", name := "cast", desc := "(III)I" } : Jvm.MethodName)) ∈ lw_all := lw_g (lw_at lw_m9 8 rfl) rfl
theorem q2037 : (Jvm.Cond.selects "SealCastsModel" ({ cls := "SealCastsModel", name := "cast", desc := "(III)I" } : Jvm.MethodName) ({ cls := "SealCastsModel", name := "cast", desc := "(III)I" } : Jvm.MethodName)) ∈ lw_all := lw_g (lw_at lw_m9 9 rfl) rfl
theorem q2038 : (Jvm.Cond.code ({ cls := "SealCastsModel", name := "cast", desc := "(III)I" } : Jvm.MethodName) prog_27_method_54_code (5 : Nat) (Option.some Jvm.ClassFile.FieldType.int)) ∈ lw_all := lw_g (lw_at lw_m9 10 rfl) rfl
theorem q2039 : (Jvm.Cond.methodLink "SealCastsModel" (389 : Nat) ({ cls := "SealCastsModel", name := "keepAct", desc := "()V" } : Jvm.MethodName)) ∈ lw_all := lw_g (lw_at lw_m9 11 rfl) rfl
theorem q2040 : (Jvm.Cond.privateMethod ({ cls := "SealCastsModel", name := "keepAct", desc := "()V" } : Jvm.MethodName)) ∈ lw_tbl := lw_at lw_m9 12 rfl
theorem q2041 : (Jvm.Cond.instanceMethod ({ cls := "SealCastsModel", name := "keepAct", desc := "()V" } : Jvm.MethodName)) ∈ lw_all := lw_g (lw_at lw_m9 13 rfl) rfl
theorem q2042 : (Jvm.Cond.code ({ cls := "SealCastsModel", name := "keepAct", desc := "()V" } : Jvm.MethodName) prog_27_method_52_code (2 : Nat) (Option.none : Option Jvm.ClassFile.FieldType)) ∈ lw_all := lw_g (lw_at lw_m9 14 rfl) rfl
theorem q2043 : (Jvm.Cond.methodLink "SealCastsModel" (392 : Nat) ({ cls := "SealCastsModel", name := "rowOf", desc := "(I)I" } : Jvm.MethodName)) ∈ lw_all := lw_g (lw_at lw_m9 15 rfl) rfl
theorem q2044 : (Jvm.Cond.privateMethod ({ cls := "SealCastsModel", name := "rowOf", desc := "(I)I" } : Jvm.MethodName)) ∈ lw_tbl := lw_at lw_m9 16 rfl
theorem q2045 : (Jvm.Cond.instanceMethod ({ cls := "SealCastsModel", name := "rowOf", desc := "(I)I" } : Jvm.MethodName)) ∈ lw_all := lw_g (lw_at lw_m9 17 rfl) rfl
theorem q2046 : (Jvm.Cond.code ({ cls := "SealCastsModel", name := "rowOf", desc := "(I)I" } : Jvm.MethodName) prog_27_method_42_code (2 : Nat) (Option.some Jvm.ClassFile.FieldType.int)) ∈ lw_all := lw_g (lw_at lw_m9 18 rfl) rfl
theorem q2048 : (Jvm.Cond.instanceMethod ({ cls := "SealCastsModel", name := "print", desc := "(I)I" } : Jvm.MethodName)) ∈ lw_all := lw_g (lw_at lw_m9 20 rfl) rfl
theorem q2049 : (Jvm.Cond.selects "SealCastsModel" ({ cls := "SealCastsModel", name := "print", desc := "(I)I" } : Jvm.MethodName) ({ cls := "SealCastsModel", name := "print", desc := "(I)I" } : Jvm.MethodName)) ∈ lw_all := lw_g (lw_at lw_m9 21 rfl) rfl
theorem q2050 : (Jvm.Cond.code ({ cls := "SealCastsModel", name := "print", desc := "(I)I" } : Jvm.MethodName) prog_27_method_55_code (3 : Nat) (Option.some Jvm.ClassFile.FieldType.int)) ∈ lw_all := lw_g (lw_at lw_m9 22 rfl) rfl
theorem q2052 : (Jvm.Cond.instanceMethod ({ cls := "SealCastsModel", name := "crack", desc := "(II)Z" } : Jvm.MethodName)) ∈ lw_all := lw_g (lw_at lw_m9 24 rfl) rfl
theorem q2053 : (Jvm.Cond.selects "SealCastsModel" ({ cls := "SealCastsModel", name := "crack", desc := "(II)Z" } : Jvm.MethodName) ({ cls := "SealCastsModel", name := "crack", desc := "(II)Z" } : Jvm.MethodName)) ∈ lw_all := lw_g (lw_at lw_m9 25 rfl) rfl
theorem q2054 : (Jvm.Cond.code ({ cls := "SealCastsModel", name := "crack", desc := "(II)Z" } : Jvm.MethodName) prog_27_method_56_code (3 : Nat) (Option.some Jvm.ClassFile.FieldType.boolean)) ∈ lw_all := lw_g (lw_at lw_m9 26 rfl) rfl
theorem q2056 : (Jvm.Cond.instanceMethod ({ cls := "SealCastsModel", name := "year", desc := "()I" } : Jvm.MethodName)) ∈ lw_all := lw_g (lw_at lw_m9 28 rfl) rfl
theorem q2057 : (Jvm.Cond.selects "SealCastsModel" ({ cls := "SealCastsModel", name := "year", desc := "()I" } : Jvm.MethodName) ({ cls := "SealCastsModel", name := "year", desc := "()I" } : Jvm.MethodName)) ∈ lw_all := lw_g (lw_at lw_m9 29 rfl) rfl
theorem q2058 : (Jvm.Cond.code ({ cls := "SealCastsModel", name := "year", desc := "()I" } : Jvm.MethodName) prog_27_method_57_code (1 : Nat) (Option.some Jvm.ClassFile.FieldType.int)) ∈ lw_all := lw_g (lw_at lw_m9 30 rfl) rfl
theorem q2060 : (Jvm.Cond.instanceMethod ({ cls := "SealCastsModel", name := "undo", desc := "()Z" } : Jvm.MethodName)) ∈ lw_all := lw_g (lw_at lw_m9 32 rfl) rfl
theorem q2061 : (Jvm.Cond.selects "SealCastsModel" ({ cls := "SealCastsModel", name := "undo", desc := "()Z" } : Jvm.MethodName) ({ cls := "SealCastsModel", name := "undo", desc := "()Z" } : Jvm.MethodName)) ∈ lw_all := lw_g (lw_at lw_m9 33 rfl) rfl
theorem q2062 : (Jvm.Cond.code ({ cls := "SealCastsModel", name := "undo", desc := "()Z" } : Jvm.MethodName) prog_27_method_58_code (1 : Nat) (Option.some Jvm.ClassFile.FieldType.boolean)) ∈ lw_all := lw_g (lw_at lw_m9 34 rfl) rfl
theorem q2063 : (Jvm.Cond.methodLink "SealCastsModel" (395 : Nat) ({ cls := "SealCastsModel", name := "exchange", desc := "()V" } : Jvm.MethodName)) ∈ lw_all := lw_g (lw_at lw_m9 35 rfl) rfl
theorem q2064 : (Jvm.Cond.privateMethod ({ cls := "SealCastsModel", name := "exchange", desc := "()V" } : Jvm.MethodName)) ∈ lw_tbl := lw_at lw_m9 36 rfl
theorem q2065 : (Jvm.Cond.instanceMethod ({ cls := "SealCastsModel", name := "exchange", desc := "()V" } : Jvm.MethodName)) ∈ lw_all := lw_g (lw_at lw_m9 37 rfl) rfl
theorem q2066 : (Jvm.Cond.code ({ cls := "SealCastsModel", name := "exchange", desc := "()V" } : Jvm.MethodName) prog_27_method_53_code (3 : Nat) (Option.none : Option Jvm.ClassFile.FieldType)) ∈ lw_all := lw_g (lw_at lw_m9 38 rfl) rfl
theorem q2068 : (Jvm.Cond.instanceMethod ({ cls := "SealCastsModel", name := "redo", desc := "()Z" } : Jvm.MethodName)) ∈ lw_all := lw_g (lw_at lw_m9 40 rfl) rfl
theorem q2069 : (Jvm.Cond.selects "SealCastsModel" ({ cls := "SealCastsModel", name := "redo", desc := "()Z" } : Jvm.MethodName) ({ cls := "SealCastsModel", name := "redo", desc := "()Z" } : Jvm.MethodName)) ∈ lw_all := lw_g (lw_at lw_m9 41 rfl) rfl
theorem q2070 : (Jvm.Cond.code ({ cls := "SealCastsModel", name := "redo", desc := "()Z" } : Jvm.MethodName) prog_27_method_59_code (1 : Nat) (Option.some Jvm.ClassFile.FieldType.boolean)) ∈ lw_all := lw_g (lw_at lw_m9 42 rfl) rfl
theorem q2072 : (Jvm.Cond.instanceMethod ({ cls := "SealCastsModel", name := "whose", desc := "(III)I" } : Jvm.MethodName)) ∈ lw_all := lw_g (lw_at lw_m9 44 rfl) rfl
theorem q2073 : (Jvm.Cond.selects "SealCastsModel" ({ cls := "SealCastsModel", name := "whose", desc := "(III)I" } : Jvm.MethodName) ({ cls := "SealCastsModel", name := "whose", desc := "(III)I" } : Jvm.MethodName)) ∈ lw_all := lw_g (lw_at lw_m9 45 rfl) rfl
theorem q2074 : (Jvm.Cond.code ({ cls := "SealCastsModel", name := "whose", desc := "(III)I" } : Jvm.MethodName) prog_27_method_60_code (6 : Nat) (Option.some Jvm.ClassFile.FieldType.int)) ∈ lw_all := lw_g (lw_at lw_m9 46 rfl) rfl
theorem q2076 : (Jvm.Cond.instanceMethod ({ cls := "SealCastsModel", name := "made", desc := "(II)I" } : Jvm.MethodName)) ∈ lw_all := lw_g (lw_at lw_m9 48 rfl) rfl
theorem q2077 : (Jvm.Cond.selects "SealCastsModel" ({ cls := "SealCastsModel", name := "made", desc := "(II)I" } : Jvm.MethodName) ({ cls := "SealCastsModel", name := "made", desc := "(II)I" } : Jvm.MethodName)) ∈ lw_all := lw_g (lw_at lw_m9 49 rfl) rfl
theorem q2078 : (Jvm.Cond.code ({ cls := "SealCastsModel", name := "made", desc := "(II)I" } : Jvm.MethodName) prog_27_method_61_code (6 : Nat) (Option.some Jvm.ClassFile.FieldType.int)) ∈ lw_all := lw_g (lw_at lw_m9 50 rfl) rfl
theorem q2080 : (Jvm.Cond.instanceMethod ({ cls := "SealCastsModel", name := "apart", desc := "(IIZ)I" } : Jvm.MethodName)) ∈ lw_all := lw_g (lw_at lw_m9 52 rfl) rfl
theorem q2081 : (Jvm.Cond.selects "SealCastsModel" ({ cls := "SealCastsModel", name := "apart", desc := "(IIZ)I" } : Jvm.MethodName) ({ cls := "SealCastsModel", name := "apart", desc := "(IIZ)I" } : Jvm.MethodName)) ∈ lw_all := lw_g (lw_at lw_m9 53 rfl) rfl
theorem q2082 : (Jvm.Cond.code ({ cls := "SealCastsModel", name := "apart", desc := "(IIZ)I" } : Jvm.MethodName) prog_27_method_62_code (4 : Nat) (Option.some Jvm.ClassFile.FieldType.int)) ∈ lw_all := lw_g (lw_at lw_m9 54 rfl) rfl
theorem q2084 : (Jvm.Cond.instanceMethod ({ cls := "SealCastsModel", name := "heats", desc := "(III)I" } : Jvm.MethodName)) ∈ lw_all := lw_g (lw_at lw_m9 56 rfl) rfl
theorem q2085 : (Jvm.Cond.selects "SealCastsModel" ({ cls := "SealCastsModel", name := "heats", desc := "(III)I" } : Jvm.MethodName) ({ cls := "SealCastsModel", name := "heats", desc := "(III)I" } : Jvm.MethodName)) ∈ lw_all := lw_g (lw_at lw_m9 57 rfl) rfl
theorem q2086 : (Jvm.Cond.code ({ cls := "SealCastsModel", name := "heats", desc := "(III)I" } : Jvm.MethodName) prog_27_method_63_code (6 : Nat) (Option.some Jvm.ClassFile.FieldType.int)) ∈ lw_all := lw_g (lw_at lw_m9 58 rfl) rfl
theorem q2088 : (Jvm.Cond.instanceMethod ({ cls := "SealCastsModel", name := "luck", desc := "(IIII)I" } : Jvm.MethodName)) ∈ lw_all := lw_g (lw_at lw_m9 60 rfl) rfl
theorem q2089 : (Jvm.Cond.selects "SealCastsModel" ({ cls := "SealCastsModel", name := "luck", desc := "(IIII)I" } : Jvm.MethodName) ({ cls := "SealCastsModel", name := "luck", desc := "(IIII)I" } : Jvm.MethodName)) ∈ lw_all := lw_g (lw_at lw_m9 61 rfl) rfl
theorem q2090 : (Jvm.Cond.code ({ cls := "SealCastsModel", name := "luck", desc := "(IIII)I" } : Jvm.MethodName) prog_27_method_66_code (5 : Nat) (Option.some Jvm.ClassFile.FieldType.int)) ∈ lw_all := lw_g (lw_at lw_m9 62 rfl) rfl
theorem q2091 : (Jvm.Cond.methodLink "SealCastsModel" (398 : Nat) ({ cls := "SealCastsModel", name := "canCast", desc := "(III)Z" } : Jvm.MethodName)) ∈ lw_all := lw_g (lw_at lw_m9 63 rfl) rfl
theorem q2092 : (Jvm.Cond.privateMethod ({ cls := "SealCastsModel", name := "canCast", desc := "(III)Z" } : Jvm.MethodName)) ∈ lw_tbl := lw_at lw_m9 64 rfl
theorem q2093 : (Jvm.Cond.instanceMethod ({ cls := "SealCastsModel", name := "canCast", desc := "(III)Z" } : Jvm.MethodName)) ∈ lw_all := lw_g (lw_at lw_m9 65 rfl) rfl
theorem q2094 : (Jvm.Cond.code ({ cls := "SealCastsModel", name := "canCast", desc := "(III)Z" } : Jvm.MethodName) prog_27_method_65_code (4 : Nat) (Option.some Jvm.ClassFile.FieldType.boolean)) ∈ lw_all := lw_g (lw_at lw_m9 66 rfl) rfl
theorem q2095 : (Jvm.Cond.methodLink "SealCastsModel" (401 : Nat) ({ cls := "SealCastsModel", name := "luckOf", desc := "(IIII)I" } : Jvm.MethodName)) ∈ lw_all := lw_g (lw_at lw_m9 67 rfl) rfl
theorem q2096 : (Jvm.Cond.privateMethod ({ cls := "SealCastsModel", name := "luckOf", desc := "(IIII)I" } : Jvm.MethodName)) ∈ lw_tbl := lw_at lw_m9 68 rfl
theorem q2097 : (Jvm.Cond.instanceMethod ({ cls := "SealCastsModel", name := "luckOf", desc := "(IIII)I" } : Jvm.MethodName)) ∈ lw_all := lw_g (lw_at lw_m9 69 rfl) rfl
theorem q2098 : (Jvm.Cond.code ({ cls := "SealCastsModel", name := "luckOf", desc := "(IIII)I" } : Jvm.MethodName) prog_27_method_64_code (7 : Nat) (Option.some Jvm.ClassFile.FieldType.int)) ∈ lw_all := lw_g (lw_at lw_m9 70 rfl) rfl
theorem q2100 : (Jvm.Cond.instanceMethod ({ cls := "SealCastsModel", name := "likely", desc := "(IIII)I" } : Jvm.MethodName)) ∈ lw_all := lw_g (lw_at lw_m9 72 rfl) rfl
theorem q2101 : (Jvm.Cond.selects "SealCastsModel" ({ cls := "SealCastsModel", name := "likely", desc := "(IIII)I" } : Jvm.MethodName) ({ cls := "SealCastsModel", name := "likely", desc := "(IIII)I" } : Jvm.MethodName)) ∈ lw_all := lw_g (lw_at lw_m9 73 rfl) rfl
theorem q2102 : (Jvm.Cond.code ({ cls := "SealCastsModel", name := "likely", desc := "(IIII)I" } : Jvm.MethodName) prog_27_method_67_code (10 : Nat) (Option.some Jvm.ClassFile.FieldType.int)) ∈ lw_all := lw_g (lw_at lw_m9 74 rfl) rfl
theorem q2104 : (Jvm.Cond.instanceMethod ({ cls := "SealCastsModel", name := "fades", desc := "(III)I" } : Jvm.MethodName)) ∈ lw_all := lw_g (lw_at lw_m9 76 rfl) rfl
theorem q2105 : (Jvm.Cond.selects "SealCastsModel" ({ cls := "SealCastsModel", name := "fades", desc := "(III)I" } : Jvm.MethodName) ({ cls := "SealCastsModel", name := "fades", desc := "(III)I" } : Jvm.MethodName)) ∈ lw_all := lw_g (lw_at lw_m9 77 rfl) rfl
theorem q2106 : (Jvm.Cond.code ({ cls := "SealCastsModel", name := "fades", desc := "(III)I" } : Jvm.MethodName) prog_27_method_68_code (6 : Nat) (Option.some Jvm.ClassFile.FieldType.int)) ∈ lw_all := lw_g (lw_at lw_m9 78 rfl) rfl
theorem q2108 : (Jvm.Cond.instanceMethod ({ cls := "SealCastsModel", name := "kin", desc := "(III)I" } : Jvm.MethodName)) ∈ lw_all := lw_g (lw_at lw_m9 80 rfl) rfl
theorem q2109 : (Jvm.Cond.selects "SealCastsModel" ({ cls := "SealCastsModel", name := "kin", desc := "(III)I" } : Jvm.MethodName) ({ cls := "SealCastsModel", name := "kin", desc := "(III)I" } : Jvm.MethodName)) ∈ lw_all := lw_g (lw_at lw_m9 81 rfl) rfl
theorem q2110 : (Jvm.Cond.code ({ cls := "SealCastsModel", name := "kin", desc := "(III)I" } : Jvm.MethodName) prog_27_method_70_code (5 : Nat) (Option.some Jvm.ClassFile.FieldType.int)) ∈ lw_all := lw_g (lw_at lw_m9 82 rfl) rfl
theorem q2111 : (Jvm.Cond.methodLink "SealCastsModel" (404 : Nat) ({ cls := "SealCastsModel", name := "kinOf", desc := "(II)I" } : Jvm.MethodName)) ∈ lw_all := lw_g (lw_at lw_m9 83 rfl) rfl
theorem q2112 : (Jvm.Cond.privateMethod ({ cls := "SealCastsModel", name := "kinOf", desc := "(II)I" } : Jvm.MethodName)) ∈ lw_tbl := lw_at lw_m9 84 rfl
theorem q2113 : (Jvm.Cond.instanceMethod ({ cls := "SealCastsModel", name := "kinOf", desc := "(II)I" } : Jvm.MethodName)) ∈ lw_all := lw_g (lw_at lw_m9 85 rfl) rfl
theorem q2114 : (Jvm.Cond.code ({ cls := "SealCastsModel", name := "kinOf", desc := "(II)I" } : Jvm.MethodName) prog_27_method_69_code (5 : Nat) (Option.some Jvm.ClassFile.FieldType.int)) ∈ lw_all := lw_g (lw_at lw_m9 86 rfl) rfl
theorem q2116 : (Jvm.Cond.instanceMethod ({ cls := "SealCastsModel", name := "thumb", desc := "(II)I" } : Jvm.MethodName)) ∈ lw_all := lw_g (lw_at lw_m9 88 rfl) rfl
theorem q2117 : (Jvm.Cond.selects "SealCastsModel" ({ cls := "SealCastsModel", name := "thumb", desc := "(II)I" } : Jvm.MethodName) ({ cls := "SealCastsModel", name := "thumb", desc := "(II)I" } : Jvm.MethodName)) ∈ lw_all := lw_g (lw_at lw_m9 89 rfl) rfl
theorem q2118 : (Jvm.Cond.code ({ cls := "SealCastsModel", name := "thumb", desc := "(II)I" } : Jvm.MethodName) prog_27_method_71_code (6 : Nat) (Option.some Jvm.ClassFile.FieldType.int)) ∈ lw_all := lw_g (lw_at lw_m9 90 rfl) rfl
theorem q2120 : (Jvm.Cond.instanceMethod ({ cls := "SealCastsModel", name := "share", desc := "(III)I" } : Jvm.MethodName)) ∈ lw_all := lw_g (lw_at lw_m9 92 rfl) rfl
theorem q2121 : (Jvm.Cond.selects "SealCastsModel" ({ cls := "SealCastsModel", name := "share", desc := "(III)I" } : Jvm.MethodName) ({ cls := "SealCastsModel", name := "share", desc := "(III)I" } : Jvm.MethodName)) ∈ lw_all := lw_g (lw_at lw_m9 93 rfl) rfl
theorem q2122 : (Jvm.Cond.code ({ cls := "SealCastsModel", name := "share", desc := "(III)I" } : Jvm.MethodName) prog_27_method_73_code (4 : Nat) (Option.some Jvm.ClassFile.FieldType.int)) ∈ lw_all := lw_g (lw_at lw_m9 94 rfl) rfl
theorem q2123 : (Jvm.Cond.methodLink "SealCastsModel" (407 : Nat) ({ cls := "SealCastsModel", name := "layShares", desc := "(II)V" } : Jvm.MethodName)) ∈ lw_all := lw_g (lw_at lw_m9 95 rfl) rfl
theorem q2124 : (Jvm.Cond.privateMethod ({ cls := "SealCastsModel", name := "layShares", desc := "(II)V" } : Jvm.MethodName)) ∈ lw_tbl := lw_at lw_m9 96 rfl
theorem q2125 : (Jvm.Cond.instanceMethod ({ cls := "SealCastsModel", name := "layShares", desc := "(II)V" } : Jvm.MethodName)) ∈ lw_all := lw_g (lw_at lw_m9 97 rfl) rfl
theorem q2126 : (Jvm.Cond.code ({ cls := "SealCastsModel", name := "layShares", desc := "(II)V" } : Jvm.MethodName) prog_27_method_72_code (8 : Nat) (Option.none : Option Jvm.ClassFile.FieldType)) ∈ lw_all := lw_g (lw_at lw_m9 98 rfl) rfl
theorem q2128 : (Jvm.Cond.instanceMethod ({ cls := "SealCastsModel", name := "lies", desc := "(I)I" } : Jvm.MethodName)) ∈ lw_all := lw_g (lw_at lw_m9 100 rfl) rfl
theorem q2129 : (Jvm.Cond.selects "SealCastsModel" ({ cls := "SealCastsModel", name := "lies", desc := "(I)I" } : Jvm.MethodName) ({ cls := "SealCastsModel", name := "lies", desc := "(I)I" } : Jvm.MethodName)) ∈ lw_all := lw_g (lw_at lw_m9 101 rfl) rfl
theorem q2130 : (Jvm.Cond.code ({ cls := "SealCastsModel", name := "lies", desc := "(I)I" } : Jvm.MethodName) prog_27_method_74_code (2 : Nat) (Option.some Jvm.ClassFile.FieldType.int)) ∈ lw_all := lw_g (lw_at lw_m9 102 rfl) rfl
theorem q2132 : (Jvm.Cond.instanceMethod ({ cls := "SealCastsModel", name := "tell", desc := "()I" } : Jvm.MethodName)) ∈ lw_all := lw_g (lw_at lw_m9 104 rfl) rfl
theorem q2133 : (Jvm.Cond.selects "SealCastsModel" ({ cls := "SealCastsModel", name := "tell", desc := "()I" } : Jvm.MethodName) ({ cls := "SealCastsModel", name := "tell", desc := "()I" } : Jvm.MethodName)) ∈ lw_all := lw_g (lw_at lw_m9 105 rfl) rfl
theorem q2134 : (Jvm.Cond.code ({ cls := "SealCastsModel", name := "tell", desc := "()I" } : Jvm.MethodName) prog_27_method_76_code (3 : Nat) (Option.some Jvm.ClassFile.FieldType.int)) ∈ lw_all := lw_g (lw_at lw_m9 106 rfl) rfl
theorem q2135 : (Jvm.Cond.methodLink "SealCastsModel" (410 : Nat) ({ cls := "SealCastsModel", name := "doTell", desc := "(I)Z" } : Jvm.MethodName)) ∈ lw_all := lw_g (lw_at lw_m9 107 rfl) rfl
theorem q2136 : (Jvm.Cond.privateMethod ({ cls := "SealCastsModel", name := "doTell", desc := "(I)Z" } : Jvm.MethodName)) ∈ lw_tbl := lw_at lw_m9 108 rfl
theorem q2137 : (Jvm.Cond.instanceMethod ({ cls := "SealCastsModel", name := "doTell", desc := "(I)Z" } : Jvm.MethodName)) ∈ lw_all := lw_g (lw_at lw_m9 109 rfl) rfl
theorem q2138 : (Jvm.Cond.code ({ cls := "SealCastsModel", name := "doTell", desc := "(I)Z" } : Jvm.MethodName) prog_27_method_75_code (4 : Nat) (Option.some Jvm.ClassFile.FieldType.boolean)) ∈ lw_all := lw_g (lw_at lw_m9 110 rfl) rfl
theorem q2140 : (Jvm.Cond.instanceMethod ({ cls := "SealCastsModel", name := "round", desc := "(IIII)I" } : Jvm.MethodName)) ∈ lw_all := lw_g (lw_at lw_m9 112 rfl) rfl
theorem q2141 : (Jvm.Cond.selects "SealCastsModel" ({ cls := "SealCastsModel", name := "round", desc := "(IIII)I" } : Jvm.MethodName) ({ cls := "SealCastsModel", name := "round", desc := "(IIII)I" } : Jvm.MethodName)) ∈ lw_all := lw_g (lw_at lw_m9 113 rfl) rfl
theorem q2142 : (Jvm.Cond.code ({ cls := "SealCastsModel", name := "round", desc := "(IIII)I" } : Jvm.MethodName) prog_27_method_77_code (7 : Nat) (Option.some Jvm.ClassFile.FieldType.int)) ∈ lw_all := lw_g (lw_at lw_m9 114 rfl) rfl
theorem q2144 : (Jvm.Cond.instanceMethod ({ cls := "SealCastsModel", name := "steady", desc := "(III)I" } : Jvm.MethodName)) ∈ lw_all := lw_g (lw_at lw_m9 116 rfl) rfl
theorem q2145 : (Jvm.Cond.selects "SealCastsModel" ({ cls := "SealCastsModel", name := "steady", desc := "(III)I" } : Jvm.MethodName) ({ cls := "SealCastsModel", name := "steady", desc := "(III)I" } : Jvm.MethodName)) ∈ lw_all := lw_g (lw_at lw_m9 117 rfl) rfl
theorem q2146 : (Jvm.Cond.code ({ cls := "SealCastsModel", name := "steady", desc := "(III)I" } : Jvm.MethodName) prog_27_method_78_code (7 : Nat) (Option.some Jvm.ClassFile.FieldType.int)) ∈ lw_all := lw_g (lw_at lw_m9 118 rfl) rfl
theorem q2148 : (Jvm.Cond.instanceMethod ({ cls := "SealCastsModel", name := "against", desc := "(III)I" } : Jvm.MethodName)) ∈ lw_all := lw_g (lw_at lw_m9 120 rfl) rfl
theorem q2149 : (Jvm.Cond.selects "SealCastsModel" ({ cls := "SealCastsModel", name := "against", desc := "(III)I" } : Jvm.MethodName) ({ cls := "SealCastsModel", name := "against", desc := "(III)I" } : Jvm.MethodName)) ∈ lw_all := lw_g (lw_at lw_m9 121 rfl) rfl
theorem q2150 : (Jvm.Cond.code ({ cls := "SealCastsModel", name := "against", desc := "(III)I" } : Jvm.MethodName) prog_27_method_79_code (6 : Nat) (Option.some Jvm.ClassFile.FieldType.int)) ∈ lw_all := lw_g (lw_at lw_m9 122 rfl) rfl
theorem q2152 : (Jvm.Cond.instanceMethod ({ cls := "SealCastsModel", name := "forge", desc := "(IIIII)I" } : Jvm.MethodName)) ∈ lw_all := lw_g (lw_at lw_m9 124 rfl) rfl
theorem q2153 : (Jvm.Cond.selects "SealCastsModel" ({ cls := "SealCastsModel", name := "forge", desc := "(IIIII)I" } : Jvm.MethodName) ({ cls := "SealCastsModel", name := "forge", desc := "(IIIII)I" } : Jvm.MethodName)) ∈ lw_all := lw_g (lw_at lw_m9 125 rfl) rfl
theorem q2154 : (Jvm.Cond.code ({ cls := "SealCastsModel", name := "forge", desc := "(IIIII)I" } : Jvm.MethodName) prog_27_method_80_code (10 : Nat) (Option.some Jvm.ClassFile.FieldType.int)) ∈ lw_all := lw_g (lw_at lw_m9 126 rfl) rfl
theorem q2156 : (Jvm.Cond.instanceMethod ({ cls := "SealCastsModel", name := "nearest", desc := "(II)I" } : Jvm.MethodName)) ∈ lw_all := lw_g (lw_at lw_m9 128 rfl) rfl
theorem q2157 : (Jvm.Cond.selects "SealCastsModel" ({ cls := "SealCastsModel", name := "nearest", desc := "(II)I" } : Jvm.MethodName) ({ cls := "SealCastsModel", name := "nearest", desc := "(II)I" } : Jvm.MethodName)) ∈ lw_all := lw_g (lw_at lw_m9 129 rfl) rfl
theorem q2158 : (Jvm.Cond.code ({ cls := "SealCastsModel", name := "nearest", desc := "(II)I" } : Jvm.MethodName) prog_27_method_81_code (8 : Nat) (Option.some Jvm.ClassFile.FieldType.int)) ∈ lw_all := lw_g (lw_at lw_m9 130 rfl) rfl
theorem q2160 : (Jvm.Cond.instanceMethod ({ cls := "SealCastsModel", name := "common", desc := "(I)I" } : Jvm.MethodName)) ∈ lw_all := lw_g (lw_at lw_m9 132 rfl) rfl
theorem q2161 : (Jvm.Cond.selects "SealCastsModel" ({ cls := "SealCastsModel", name := "common", desc := "(I)I" } : Jvm.MethodName) ({ cls := "SealCastsModel", name := "common", desc := "(I)I" } : Jvm.MethodName)) ∈ lw_all := lw_g (lw_at lw_m9 133 rfl) rfl
theorem q2162 : (Jvm.Cond.code ({ cls := "SealCastsModel", name := "common", desc := "(I)I" } : Jvm.MethodName) prog_27_method_82_code (4 : Nat) (Option.some Jvm.ClassFile.FieldType.int)) ∈ lw_all := lw_g (lw_at lw_m9 134 rfl) rfl
theorem q2164 : (Jvm.Cond.instanceMethod ({ cls := "SealCastsModel", name := "alike", desc := "(IZ)I" } : Jvm.MethodName)) ∈ lw_all := lw_g (lw_at lw_m9 136 rfl) rfl
theorem q2165 : (Jvm.Cond.selects "SealCastsModel" ({ cls := "SealCastsModel", name := "alike", desc := "(IZ)I" } : Jvm.MethodName) ({ cls := "SealCastsModel", name := "alike", desc := "(IZ)I" } : Jvm.MethodName)) ∈ lw_all := lw_g (lw_at lw_m9 137 rfl) rfl
theorem q2166 : (Jvm.Cond.code ({ cls := "SealCastsModel", name := "alike", desc := "(IZ)I" } : Jvm.MethodName) prog_27_method_83_code (5 : Nat) (Option.some Jvm.ClassFile.FieldType.int)) ∈ lw_all := lw_g (lw_at lw_m9 138 rfl) rfl
theorem q2168 : (Jvm.Cond.instanceMethod ({ cls := "SealCastsModel", name := "wax", desc := "(I)I" } : Jvm.MethodName)) ∈ lw_all := lw_g (lw_at lw_m9 140 rfl) rfl
theorem q2169 : (Jvm.Cond.selects "SealCastsModel" ({ cls := "SealCastsModel", name := "wax", desc := "(I)I" } : Jvm.MethodName) ({ cls := "SealCastsModel", name := "wax", desc := "(I)I" } : Jvm.MethodName)) ∈ lw_all := lw_g (lw_at lw_m9 141 rfl) rfl
theorem q2170 : (Jvm.Cond.code ({ cls := "SealCastsModel", name := "wax", desc := "(I)I" } : Jvm.MethodName) prog_27_method_86_code (7 : Nat) (Option.some Jvm.ClassFile.FieldType.int)) ∈ lw_all := lw_g (lw_at lw_m9 142 rfl) rfl
theorem q2171 : (Jvm.Cond.methodLink "SealCastsModel" (417 : Nat) ({ cls := "SealCastsModel", name := "layWays", desc := "(I)V" } : Jvm.MethodName)) ∈ lw_all := lw_g (lw_at lw_m9 143 rfl) rfl
theorem q2172 : (Jvm.Cond.privateMethod ({ cls := "SealCastsModel", name := "layWays", desc := "(I)V" } : Jvm.MethodName)) ∈ lw_tbl := lw_at lw_m9 144 rfl
theorem q2173 : (Jvm.Cond.instanceMethod ({ cls := "SealCastsModel", name := "layWays", desc := "(I)V" } : Jvm.MethodName)) ∈ lw_all := lw_g (lw_at lw_m9 145 rfl) rfl
theorem q2174 : (Jvm.Cond.code ({ cls := "SealCastsModel", name := "layWays", desc := "(I)V" } : Jvm.MethodName) prog_27_method_85_code (8 : Nat) (Option.none : Option Jvm.ClassFile.FieldType)) ∈ lw_all := lw_g (lw_at lw_m9 146 rfl) rfl
theorem q2175 : (Jvm.Cond.methodLink "SealCastsModel" (413 : Nat) ({ cls := "SealCastsModel", name := "ways", desc := "()I" } : Jvm.MethodName)) ∈ lw_all := lw_g (lw_at lw_m9 147 rfl) rfl
theorem q2176 : (Jvm.Cond.privateMethod ({ cls := "SealCastsModel", name := "ways", desc := "()I" } : Jvm.MethodName)) ∈ lw_tbl := lw_at lw_m9 148 rfl
theorem q2177 : (Jvm.Cond.instanceMethod ({ cls := "SealCastsModel", name := "ways", desc := "()I" } : Jvm.MethodName)) ∈ lw_all := lw_g (lw_at lw_m9 149 rfl) rfl
theorem q2178 : (Jvm.Cond.code ({ cls := "SealCastsModel", name := "ways", desc := "()I" } : Jvm.MethodName) prog_27_method_84_code (1 : Nat) (Option.some Jvm.ClassFile.FieldType.int)) ∈ lw_all := lw_g (lw_at lw_m9 150 rfl) rfl
theorem q2179 : (Jvm.Cond.constant "SealCastsModel" (416 : Nat) (1000000 : Int32)) ∈ lw_all := lw_g (lw_at lw_m9 151 rfl) rfl
theorem q2181 : (Jvm.Cond.instanceMethod ({ cls := "SealCastsModel", name := "sample", desc := "(IZ)I" } : Jvm.MethodName)) ∈ lw_all := lw_g (lw_at lw_m9 153 rfl) rfl
theorem q2182 : (Jvm.Cond.selects "SealCastsModel" ({ cls := "SealCastsModel", name := "sample", desc := "(IZ)I" } : Jvm.MethodName) ({ cls := "SealCastsModel", name := "sample", desc := "(IZ)I" } : Jvm.MethodName)) ∈ lw_all := lw_g (lw_at lw_m9 154 rfl) rfl
theorem q2183 : (Jvm.Cond.code ({ cls := "SealCastsModel", name := "sample", desc := "(IZ)I" } : Jvm.MethodName) prog_27_method_88_code (3 : Nat) (Option.some Jvm.ClassFile.FieldType.int)) ∈ lw_all := lw_g (lw_at lw_m9 155 rfl) rfl
theorem q2184 : (Jvm.Cond.methodLink "SealCastsModel" (423 : Nat) ({ cls := "SealCastsModel", name := "fact", desc := "(IIII)I" } : Jvm.MethodName)) ∈ lw_all := lw_g (lw_at lw_m9 156 rfl) rfl
theorem q2185 : (Jvm.Cond.privateMethod ({ cls := "SealCastsModel", name := "fact", desc := "(IIII)I" } : Jvm.MethodName)) ∈ lw_tbl := lw_at lw_m9 157 rfl
theorem q2186 : (Jvm.Cond.instanceMethod ({ cls := "SealCastsModel", name := "fact", desc := "(IIII)I" } : Jvm.MethodName)) ∈ lw_all := lw_g (lw_at lw_m9 158 rfl) rfl
theorem q2187 : (Jvm.Cond.code ({ cls := "SealCastsModel", name := "fact", desc := "(IIII)I" } : Jvm.MethodName) prog_27_method_87_code (5 : Nat) (Option.some Jvm.ClassFile.FieldType.int)) ∈ lw_all := lw_g (lw_at lw_m9 159 rfl) rfl
theorem q2189 : (Jvm.Cond.instanceMethod ({ cls := "SealCastsModel", name := "claim", desc := "(III)I" } : Jvm.MethodName)) ∈ lw_all := lw_g (lw_at lw_m9 161 rfl) rfl
theorem q2190 : (Jvm.Cond.selects "SealCastsModel" ({ cls := "SealCastsModel", name := "claim", desc := "(III)I" } : Jvm.MethodName) ({ cls := "SealCastsModel", name := "claim", desc := "(III)I" } : Jvm.MethodName)) ∈ lw_all := lw_g (lw_at lw_m9 162 rfl) rfl
theorem q2191 : (Jvm.Cond.code ({ cls := "SealCastsModel", name := "claim", desc := "(III)I" } : Jvm.MethodName) prog_27_method_89_code (4 : Nat) (Option.some Jvm.ClassFile.FieldType.int)) ∈ lw_all := lw_g (lw_at lw_m9 163 rfl) rfl
theorem q2193 : (Jvm.Cond.instanceMethod ({ cls := "SealCastsModel", name := "saw", desc := "(IIZ)I" } : Jvm.MethodName)) ∈ lw_all := lw_g (lw_at lw_m9 165 rfl) rfl
theorem q2194 : (Jvm.Cond.selects "SealCastsModel" ({ cls := "SealCastsModel", name := "saw", desc := "(IIZ)I" } : Jvm.MethodName) ({ cls := "SealCastsModel", name := "saw", desc := "(IIZ)I" } : Jvm.MethodName)) ∈ lw_all := lw_g (lw_at lw_m9 166 rfl) rfl
theorem q2195 : (Jvm.Cond.code ({ cls := "SealCastsModel", name := "saw", desc := "(IIZ)I" } : Jvm.MethodName) prog_27_method_90_code (4 : Nat) (Option.some Jvm.ClassFile.FieldType.int)) ∈ lw_all := lw_g (lw_at lw_m9 167 rfl) rfl
theorem q2197 : (Jvm.Cond.instanceMethod ({ cls := "SealCastsModel", name := "link", desc := "(IIZ)I" } : Jvm.MethodName)) ∈ lw_all := lw_g (lw_at lw_m9 169 rfl) rfl
theorem q2198 : (Jvm.Cond.selects "SealCastsModel" ({ cls := "SealCastsModel", name := "link", desc := "(IIZ)I" } : Jvm.MethodName) ({ cls := "SealCastsModel", name := "link", desc := "(IIZ)I" } : Jvm.MethodName)) ∈ lw_all := lw_g (lw_at lw_m9 170 rfl) rfl
theorem q2199 : (Jvm.Cond.code ({ cls := "SealCastsModel", name := "link", desc := "(IIZ)I" } : Jvm.MethodName) prog_27_method_91_code (4 : Nat) (Option.some Jvm.ClassFile.FieldType.int)) ∈ lw_all := lw_g (lw_at lw_m9 171 rfl) rfl
theorem q2201 : (Jvm.Cond.instanceMethod ({ cls := "SealCastsModel", name := "untell", desc := "(I)Z" } : Jvm.MethodName)) ∈ lw_all := lw_g (lw_at lw_m9 173 rfl) rfl
theorem q2202 : (Jvm.Cond.selects "SealCastsModel" ({ cls := "SealCastsModel", name := "untell", desc := "(I)Z" } : Jvm.MethodName) ({ cls := "SealCastsModel", name := "untell", desc := "(I)Z" } : Jvm.MethodName)) ∈ lw_all := lw_g (lw_at lw_m9 174 rfl) rfl
theorem q2203 : (Jvm.Cond.code ({ cls := "SealCastsModel", name := "untell", desc := "(I)Z" } : Jvm.MethodName) prog_27_method_92_code (2 : Nat) (Option.some Jvm.ClassFile.FieldType.boolean)) ∈ lw_all := lw_g (lw_at lw_m9 175 rfl) rfl
theorem q2205 : (Jvm.Cond.instanceMethod ({ cls := "SealCastsModel", name := "later", desc := "(I)I" } : Jvm.MethodName)) ∈ lw_all := lw_g (lw_at lw_m9 177 rfl) rfl
theorem q2206 : (Jvm.Cond.selects "SealCastsModel" ({ cls := "SealCastsModel", name := "later", desc := "(I)I" } : Jvm.MethodName) ({ cls := "SealCastsModel", name := "later", desc := "(I)I" } : Jvm.MethodName)) ∈ lw_all := lw_g (lw_at lw_m9 178 rfl) rfl
theorem q2207 : (Jvm.Cond.code ({ cls := "SealCastsModel", name := "later", desc := "(I)I" } : Jvm.MethodName) prog_27_method_93_code (2 : Nat) (Option.some Jvm.ClassFile.FieldType.int)) ∈ lw_all := lw_g (lw_at lw_m9 179 rfl) rfl
theorem q2208 : (Jvm.Cond.constant "SealCastsModel" (426 : Nat) (100000 : Int32)) ∈ lw_all := lw_g (lw_at lw_m9 180 rfl) rfl
theorem q2210 : (Jvm.Cond.instanceMethod ({ cls := "SealCastsModel", name := "tree", desc := "(III)I" } : Jvm.MethodName)) ∈ lw_all := lw_g (lw_at lw_m9 182 rfl) rfl
theorem q2211 : (Jvm.Cond.selects "SealCastsModel" ({ cls := "SealCastsModel", name := "tree", desc := "(III)I" } : Jvm.MethodName) ({ cls := "SealCastsModel", name := "tree", desc := "(III)I" } : Jvm.MethodName)) ∈ lw_all := lw_g (lw_at lw_m9 183 rfl) rfl
theorem q2212 : (Jvm.Cond.code ({ cls := "SealCastsModel", name := "tree", desc := "(III)I" } : Jvm.MethodName) prog_27_method_97_code (10 : Nat) (Option.some Jvm.ClassFile.FieldType.int)) ∈ lw_all := lw_g (lw_at lw_m9 184 rfl) rfl
theorem q2213 : (Jvm.Cond.methodLink "SealCastsModel" (433 : Nat) ({ cls := "SealCastsModel", name := "laySamples", desc := "(I)V" } : Jvm.MethodName)) ∈ lw_all := lw_g (lw_at lw_m9 185 rfl) rfl
theorem q2214 : (Jvm.Cond.privateMethod ({ cls := "SealCastsModel", name := "laySamples", desc := "(I)V" } : Jvm.MethodName)) ∈ lw_tbl := lw_at lw_m9 186 rfl
theorem q2215 : (Jvm.Cond.instanceMethod ({ cls := "SealCastsModel", name := "laySamples", desc := "(I)V" } : Jvm.MethodName)) ∈ lw_all := lw_g (lw_at lw_m9 187 rfl) rfl
theorem q2216 : (Jvm.Cond.code ({ cls := "SealCastsModel", name := "laySamples", desc := "(I)V" } : Jvm.MethodName) prog_27_method_95_code (5 : Nat) (Option.none : Option Jvm.ClassFile.FieldType)) ∈ lw_all := lw_g (lw_at lw_m9 188 rfl) rfl
theorem q2217 : (Jvm.Cond.methodLink "SealCastsModel" (430 : Nat) ({ cls := "SealCastsModel", name := "counts", desc := "(III)Z" } : Jvm.MethodName)) ∈ lw_all := lw_g (lw_at lw_m9 189 rfl) rfl
theorem q2218 : (Jvm.Cond.privateMethod ({ cls := "SealCastsModel", name := "counts", desc := "(III)Z" } : Jvm.MethodName)) ∈ lw_tbl := lw_at lw_m9 190 rfl
theorem q2219 : (Jvm.Cond.instanceMethod ({ cls := "SealCastsModel", name := "counts", desc := "(III)Z" } : Jvm.MethodName)) ∈ lw_all := lw_g (lw_at lw_m9 191 rfl) rfl
theorem q2220 : (Jvm.Cond.code ({ cls := "SealCastsModel", name := "counts", desc := "(III)Z" } : Jvm.MethodName) prog_27_method_94_code (4 : Nat) (Option.some Jvm.ClassFile.FieldType.boolean)) ∈ lw_all := lw_g (lw_at lw_m9 192 rfl) rfl
theorem q2221 : (Jvm.Cond.methodLink "SealCastsModel" (436 : Nat) ({ cls := "SealCastsModel", name := "changesOf", desc := "(II)I" } : Jvm.MethodName)) ∈ lw_all := lw_g (lw_at lw_m9 193 rfl) rfl
theorem q2222 : (Jvm.Cond.privateMethod ({ cls := "SealCastsModel", name := "changesOf", desc := "(II)I" } : Jvm.MethodName)) ∈ lw_tbl := lw_at lw_m9 194 rfl
theorem q2223 : (Jvm.Cond.instanceMethod ({ cls := "SealCastsModel", name := "changesOf", desc := "(II)I" } : Jvm.MethodName)) ∈ lw_all := lw_g (lw_at lw_m9 195 rfl) rfl
theorem q2224 : (Jvm.Cond.code ({ cls := "SealCastsModel", name := "changesOf", desc := "(II)I" } : Jvm.MethodName) prog_27_method_96_code (8 : Nat) (Option.some Jvm.ClassFile.FieldType.int)) ∈ lw_all := lw_g (lw_at lw_m9 196 rfl) rfl
theorem q2226 : (Jvm.Cond.instanceMethod ({ cls := "SealCastsModel", name := "centre", desc := "(II)I" } : Jvm.MethodName)) ∈ lw_all := lw_g (lw_at lw_m9 198 rfl) rfl
theorem q2227 : (Jvm.Cond.selects "SealCastsModel" ({ cls := "SealCastsModel", name := "centre", desc := "(II)I" } : Jvm.MethodName) ({ cls := "SealCastsModel", name := "centre", desc := "(II)I" } : Jvm.MethodName)) ∈ lw_all := lw_g (lw_at lw_m9 199 rfl) rfl
theorem q2228 : (Jvm.Cond.code ({ cls := "SealCastsModel", name := "centre", desc := "(II)I" } : Jvm.MethodName) prog_27_method_98_code (8 : Nat) (Option.some Jvm.ClassFile.FieldType.int)) ∈ lw_all := lw_g (lw_at lw_m9 200 rfl) rfl
theorem q2230 : (Jvm.Cond.instanceMethod ({ cls := "SealCastsModel", name := "clans", desc := "(III)I" } : Jvm.MethodName)) ∈ lw_all := lw_g (lw_at lw_m9 202 rfl) rfl
theorem q2231 : (Jvm.Cond.selects "SealCastsModel" ({ cls := "SealCastsModel", name := "clans", desc := "(III)I" } : Jvm.MethodName) ({ cls := "SealCastsModel", name := "clans", desc := "(III)I" } : Jvm.MethodName)) ∈ lw_all := lw_g (lw_at lw_m9 203 rfl) rfl
theorem q2232 : (Jvm.Cond.code ({ cls := "SealCastsModel", name := "clans", desc := "(III)I" } : Jvm.MethodName) prog_27_method_100_code (9 : Nat) (Option.some Jvm.ClassFile.FieldType.int)) ∈ lw_all := lw_g (lw_at lw_m9 204 rfl) rfl
theorem q2233 : (Jvm.Cond.methodLink "SealCastsModel" (439 : Nat) ({ cls := "SealCastsModel", name := "layClans", desc := "(I)V" } : Jvm.MethodName)) ∈ lw_all := lw_g (lw_at lw_m9 205 rfl) rfl
theorem q2234 : (Jvm.Cond.privateMethod ({ cls := "SealCastsModel", name := "layClans", desc := "(I)V" } : Jvm.MethodName)) ∈ lw_tbl := lw_at lw_m9 206 rfl
theorem q2235 : (Jvm.Cond.instanceMethod ({ cls := "SealCastsModel", name := "layClans", desc := "(I)V" } : Jvm.MethodName)) ∈ lw_all := lw_g (lw_at lw_m9 207 rfl) rfl
theorem q2236 : (Jvm.Cond.code ({ cls := "SealCastsModel", name := "layClans", desc := "(I)V" } : Jvm.MethodName) prog_27_method_99_code (7 : Nat) (Option.none : Option Jvm.ClassFile.FieldType)) ∈ lw_all := lw_g (lw_at lw_m9 208 rfl) rfl
theorem q2238 : (Jvm.Cond.instanceMethod ({ cls := "SealCastsModel", name := "origin", desc := "(II)I" } : Jvm.MethodName)) ∈ lw_all := lw_g (lw_at lw_m9 210 rfl) rfl
theorem q2239 : (Jvm.Cond.selects "SealCastsModel" ({ cls := "SealCastsModel", name := "origin", desc := "(II)I" } : Jvm.MethodName) ({ cls := "SealCastsModel", name := "origin", desc := "(II)I" } : Jvm.MethodName)) ∈ lw_all := lw_g (lw_at lw_m9 211 rfl) rfl
theorem q2240 : (Jvm.Cond.code ({ cls := "SealCastsModel", name := "origin", desc := "(II)I" } : Jvm.MethodName) prog_27_method_101_code (10 : Nat) (Option.some Jvm.ClassFile.FieldType.int)) ∈ lw_all := lw_g (lw_at lw_m9 212 rfl) rfl
theorem q2242 : (Jvm.Cond.instanceMethod ({ cls := "SealCastsModel", name := "falses", desc := "(I)I" } : Jvm.MethodName)) ∈ lw_all := lw_g (lw_at lw_m9 214 rfl) rfl
theorem q2243 : (Jvm.Cond.selects "SealCastsModel" ({ cls := "SealCastsModel", name := "falses", desc := "(I)I" } : Jvm.MethodName) ({ cls := "SealCastsModel", name := "falses", desc := "(I)I" } : Jvm.MethodName)) ∈ lw_all := lw_g (lw_at lw_m9 215 rfl) rfl
theorem q2244 : (Jvm.Cond.code ({ cls := "SealCastsModel", name := "falses", desc := "(I)I" } : Jvm.MethodName) prog_27_method_103_code (4 : Nat) (Option.some Jvm.ClassFile.FieldType.int)) ∈ lw_all := lw_g (lw_at lw_m9 216 rfl) rfl
theorem q2245 : (Jvm.Cond.methodLink "SealCastsModel" (442 : Nat) ({ cls := "SealCastsModel", name := "isFalse", desc := "(I)Z" } : Jvm.MethodName)) ∈ lw_all := lw_g (lw_at lw_m9 217 rfl) rfl
theorem q2246 : (Jvm.Cond.privateMethod ({ cls := "SealCastsModel", name := "isFalse", desc := "(I)Z" } : Jvm.MethodName)) ∈ lw_tbl := lw_at lw_m9 218 rfl
theorem q2247 : (Jvm.Cond.instanceMethod ({ cls := "SealCastsModel", name := "isFalse", desc := "(I)Z" } : Jvm.MethodName)) ∈ lw_all := lw_g (lw_at lw_m9 219 rfl) rfl
theorem q2248 : (Jvm.Cond.code ({ cls := "SealCastsModel", name := "isFalse", desc := "(I)Z" } : Jvm.MethodName) prog_27_method_102_code (2 : Nat) (Option.some Jvm.ClassFile.FieldType.boolean)) ∈ lw_all := lw_g (lw_at lw_m9 220 rfl) rfl
theorem q2250 : (Jvm.Cond.instanceMethod ({ cls := "SealCastsModel", name := "span", desc := "(III)I" } : Jvm.MethodName)) ∈ lw_all := lw_g (lw_at lw_m9 222 rfl) rfl
theorem q2251 : (Jvm.Cond.selects "SealCastsModel" ({ cls := "SealCastsModel", name := "span", desc := "(III)I" } : Jvm.MethodName) ({ cls := "SealCastsModel", name := "span", desc := "(III)I" } : Jvm.MethodName)) ∈ lw_all := lw_g (lw_at lw_m9 223 rfl) rfl
theorem q2252 : (Jvm.Cond.code ({ cls := "SealCastsModel", name := "span", desc := "(III)I" } : Jvm.MethodName) prog_27_method_104_code (7 : Nat) (Option.some Jvm.ClassFile.FieldType.int)) ∈ lw_all := lw_g (lw_at lw_m9 224 rfl) rfl
theorem q2254 : (Jvm.Cond.instanceMethod ({ cls := "SealCastsModel", name := "backward", desc := "(II)I" } : Jvm.MethodName)) ∈ lw_all := lw_g (lw_at lw_m9 226 rfl) rfl
theorem q2255 : (Jvm.Cond.selects "SealCastsModel" ({ cls := "SealCastsModel", name := "backward", desc := "(II)I" } : Jvm.MethodName) ({ cls := "SealCastsModel", name := "backward", desc := "(II)I" } : Jvm.MethodName)) ∈ lw_all := lw_g (lw_at lw_m9 227 rfl) rfl
theorem q2256 : (Jvm.Cond.code ({ cls := "SealCastsModel", name := "backward", desc := "(II)I" } : Jvm.MethodName) prog_27_method_106_code (3 : Nat) (Option.some Jvm.ClassFile.FieldType.int)) ∈ lw_all := lw_g (lw_at lw_m9 228 rfl) rfl
theorem q2257 : (Jvm.Cond.methodLink "SealCastsModel" (445 : Nat) ({ cls := "SealCastsModel", name := "layLinks", desc := "(I)Z" } : Jvm.MethodName)) ∈ lw_all := lw_g (lw_at lw_m9 229 rfl) rfl
theorem q2258 : (Jvm.Cond.privateMethod ({ cls := "SealCastsModel", name := "layLinks", desc := "(I)Z" } : Jvm.MethodName)) ∈ lw_tbl := lw_at lw_m9 230 rfl
theorem q2259 : (Jvm.Cond.instanceMethod ({ cls := "SealCastsModel", name := "layLinks", desc := "(I)Z" } : Jvm.MethodName)) ∈ lw_all := lw_g (lw_at lw_m9 231 rfl) rfl
theorem q2260 : (Jvm.Cond.code ({ cls := "SealCastsModel", name := "layLinks", desc := "(I)Z" } : Jvm.MethodName) prog_27_method_105_code (8 : Nat) (Option.some Jvm.ClassFile.FieldType.boolean)) ∈ lw_all := lw_g (lw_at lw_m9 232 rfl) rfl
theorem q2262 : (Jvm.Cond.instanceMethod ({ cls := "SealCastsModel", name := "image", desc := "(I)I" } : Jvm.MethodName)) ∈ lw_all := lw_g (lw_at lw_m9 234 rfl) rfl
theorem q2263 : (Jvm.Cond.selects "SealCastsModel" ({ cls := "SealCastsModel", name := "image", desc := "(I)I" } : Jvm.MethodName) ({ cls := "SealCastsModel", name := "image", desc := "(I)I" } : Jvm.MethodName)) ∈ lw_all := lw_g (lw_at lw_m9 235 rfl) rfl
theorem q2264 : (Jvm.Cond.code ({ cls := "SealCastsModel", name := "image", desc := "(I)I" } : Jvm.MethodName) prog_27_method_107_code (3 : Nat) (Option.some Jvm.ClassFile.FieldType.int)) ∈ lw_all := lw_g (lw_at lw_m9 236 rfl) rfl
theorem q2266 : (Jvm.Cond.instanceMethod ({ cls := "SealCastsModel", name := "back", desc := "(I)I" } : Jvm.MethodName)) ∈ lw_all := lw_g (lw_at lw_m9 238 rfl) rfl
theorem q2267 : (Jvm.Cond.selects "SealCastsModel" ({ cls := "SealCastsModel", name := "back", desc := "(I)I" } : Jvm.MethodName) ({ cls := "SealCastsModel", name := "back", desc := "(I)I" } : Jvm.MethodName)) ∈ lw_all := lw_g (lw_at lw_m9 239 rfl) rfl
theorem q2268 : (Jvm.Cond.code ({ cls := "SealCastsModel", name := "back", desc := "(I)I" } : Jvm.MethodName) prog_27_method_108_code (3 : Nat) (Option.some Jvm.ClassFile.FieldType.int)) ∈ lw_all := lw_g (lw_at lw_m10 0 rfl) rfl
theorem q2270 : (Jvm.Cond.instanceMethod ({ cls := "SealCastsModel", name := "about", desc := "(I)I" } : Jvm.MethodName)) ∈ lw_all := lw_g (lw_at lw_m10 2 rfl) rfl
theorem q2271 : (Jvm.Cond.selects "SealCastsModel" ({ cls := "SealCastsModel", name := "about", desc := "(I)I" } : Jvm.MethodName) ({ cls := "SealCastsModel", name := "about", desc := "(I)I" } : Jvm.MethodName)) ∈ lw_all := lw_g (lw_at lw_m10 3 rfl) rfl
theorem q2272 : (Jvm.Cond.code ({ cls := "SealCastsModel", name := "about", desc := "(I)I" } : Jvm.MethodName) prog_27_method_109_code (2 : Nat) (Option.some Jvm.ClassFile.FieldType.int)) ∈ lw_all := lw_g (lw_at lw_m10 4 rfl) rfl
theorem q2274 : (Jvm.Cond.instanceMethod ({ cls := "SealCastsModel", name := "feed", desc := "(IIIII)I" } : Jvm.MethodName)) ∈ lw_all := lw_g (lw_at lw_m10 6 rfl) rfl
theorem q2275 : (Jvm.Cond.selects "SealCastsModel" ({ cls := "SealCastsModel", name := "feed", desc := "(IIIII)I" } : Jvm.MethodName) ({ cls := "SealCastsModel", name := "feed", desc := "(IIIII)I" } : Jvm.MethodName)) ∈ lw_all := lw_g (lw_at lw_m10 7 rfl) rfl
theorem q2276 : (Jvm.Cond.code ({ cls := "SealCastsModel", name := "feed", desc := "(IIIII)I" } : Jvm.MethodName) prog_27_method_110_code (8 : Nat) (Option.some Jvm.ClassFile.FieldType.int)) ∈ lw_all := lw_g (lw_at lw_m10 8 rfl) rfl
theorem q2278 : (Jvm.Cond.instanceMethod ({ cls := "SealCastsModel", name := "end", desc := "(I)I" } : Jvm.MethodName)) ∈ lw_all := lw_g (lw_at lw_m10 10 rfl) rfl
theorem q2279 : (Jvm.Cond.selects "SealCastsModel" ({ cls := "SealCastsModel", name := "end", desc := "(I)I" } : Jvm.MethodName) ({ cls := "SealCastsModel", name := "end", desc := "(I)I" } : Jvm.MethodName)) ∈ lw_all := lw_g (lw_at lw_m10 11 rfl) rfl
theorem q2280 : (Jvm.Cond.code ({ cls := "SealCastsModel", name := "end", desc := "(I)I" } : Jvm.MethodName) prog_27_method_111_code (2 : Nat) (Option.some Jvm.ClassFile.FieldType.int)) ∈ lw_all := lw_g (lw_at lw_m10 12 rfl) rfl
theorem q2297 : (Jvm.Cond.castable "SealCastsModel" "java/lang/Object") ∈ lw_tbl := lw_at lw_m10 29 rfl
theorem in_X4 : ∀ w ∈ wsX40, w ∈ lw_all := lw_in wsX40 [1698, 1700, 1702, 1704, 1706, 1708, 1710, 1712, 1714, 1716, 1718, 1720, 1722, 1724, 1726, 1728, 1730, 1732, 1734, 1736, 1738, 1740, 1742, 1744, 1746, 1748, 1750, 1752, 1754, 1756, 1758, 1760, 1762, 1764, 1766, 1768, 1770, 1772, 1774, 1776, 1778, 1780, 1782, 1784, 1786, 1788, 1790, 1792, 1794, 1796, 1798, 1800, 1802, 1804, 1806, 1808, 1810, 1812, 1814, 1816, 1818, 1820, 1822, 1824, 1826, 1828, 1830, 1832, 1834] (by decide +kernel) (by decide +kernel)

