set_option maxRecDepth 100000
/-! FishReadersLaw.law([I)Z -/
def mL_law : Cd := ([(0, .inl (i_new 1 15 3)),
  (3, .inl (i_dup 4)),
  (4, .inr (c_I 0 7 1 (Mt mX0_init 1))),
  (7, .inl (i_astore 1 8)),
  (8, .inl (i_new 9 26 11)),
  (11, .inl (i_dup 12)),
  (12, .inr (c_I 0 15 2 (Mt mX9_init 2))),
  (15, .inl (i_astore 2 16)),
  (16, .inl (i_push (.int 0) 17)),
  (17, .inl (i_istore 3 18)),
  (18, .inl (i_iload 3 19)),
  (19, .inl (i_aload 0 20)),
  (20, .inl (i_alen [58] 21)),
  (21, .inl (i_push (.int 7) 23)),
  (23, .inl (i_bin (fun x y => x - y) 24)),
  (24, .inl (i_icmp (fun x y => y < x) 1520 27)),
  (27, .inl (i_aload 0 28)),
  (28, .inl (i_iload 3 29)),
  (29, .inl (i_iald 58 30)),
  (30, .inl (i_push (.int 63) 32)),
  (32, .inl (i_bin (fun x y => x &&& y) 33)),
  (33, .inl (i_tsw 0 [204, 247, 290, 353, 376, 399, 412, 425, 438, 461, 494, 527, 560, 593, 616, 649, 682, 705, 748, 791, 814, 837, 870, 913, 956, 999, 1032, 1107, 1170, 1223, 1277, 1320, 1343, 1366, 1389, 1422, 1455, 1478, 1501] 1514)),
  (204, .inl (i_aload 1 205)),
  (205, .inl (i_aload 0 206)),
  (206, .inl (i_iload 3 207)),
  (207, .inl (i_push (.int 1) 208)),
  (208, .inl (i_bin (fun x y => x + y) 209)),
  (209, .inl (i_iald 58 210)),
  (210, .inl (i_aload 0 211)),
  (211, .inl (i_iload 3 212)),
  (212, .inl (i_push (.int 2) 213)),
  (213, .inl (i_bin (fun x y => x + y) 214)),
  (214, .inl (i_iald 58 215)),
  (215, .inl (i_aload 0 216)),
  (216, .inl (i_iload 3 217)),
  (217, .inl (i_push (.int 3) 218)),
  (218, .inl (i_bin (fun x y => x + y) 219)),
  (219, .inl (i_iald 58 220)),
  (220, .inr (c_V 3 223 5 1 (Mt mX0_row 5))),
  (223, .inl (i_aload 2 224)),
  (224, .inl (i_aload 0 225)),
  (225, .inl (i_iload 3 226)),
  (226, .inl (i_push (.int 1) 227)),
  (227, .inl (i_bin (fun x y => x + y) 228)),
  (228, .inl (i_iald 58 229)),
  (229, .inl (i_aload 0 230)),
  (230, .inl (i_iload 3 231)),
  (231, .inl (i_push (.int 2) 232)),
  (232, .inl (i_bin (fun x y => x + y) 233)),
  (233, .inl (i_iald 58 234)),
  (234, .inl (i_aload 0 235)),
  (235, .inl (i_iload 3 236)),
  (236, .inl (i_push (.int 3) 237)),
  (237, .inl (i_bin (fun x y => x + y) 238)),
  (238, .inl (i_iald 58 239)),
  (239, .inr (c_V 3 242 5 9 (Mt mX9_row 5))),
  (242, .inl (i_icmp (fun x y => x = y) 1514 245)),
  (245, .inl (i_push (.int 0) 246)),
  (246, .inl i_zret),
  (247, .inl (i_aload 1 248)),
  (248, .inl (i_aload 0 249)),
  (249, .inl (i_iload 3 250)),
  (250, .inl (i_push (.int 1) 251)),
  (251, .inl (i_bin (fun x y => x + y) 252)),
  (252, .inl (i_iald 58 253)),
  (253, .inl (i_aload 0 254)),
  (254, .inl (i_iload 3 255)),
  (255, .inl (i_push (.int 2) 256)),
  (256, .inl (i_bin (fun x y => x + y) 257)),
  (257, .inl (i_iald 58 258)),
  (258, .inl (i_aload 0 259)),
  (259, .inl (i_iload 3 260)),
  (260, .inl (i_push (.int 3) 261)),
  (261, .inl (i_bin (fun x y => x + y) 262)),
  (262, .inl (i_iald 58 263)),
  (263, .inr (c_V 3 266 5 1 (Mt mX0_set 5))),
  (266, .inl (i_aload 2 267)),
  (267, .inl (i_aload 0 268)),
  (268, .inl (i_iload 3 269)),
  (269, .inl (i_push (.int 1) 270)),
  (270, .inl (i_bin (fun x y => x + y) 271)),
  (271, .inl (i_iald 58 272)),
  (272, .inl (i_aload 0 273)),
  (273, .inl (i_iload 3 274)),
  (274, .inl (i_push (.int 2) 275)),
  (275, .inl (i_bin (fun x y => x + y) 276)),
  (276, .inl (i_iald 58 277)),
  (277, .inl (i_aload 0 278)),
  (278, .inl (i_iload 3 279)),
  (279, .inl (i_push (.int 3) 280)),
  (280, .inl (i_bin (fun x y => x + y) 281)),
  (281, .inl (i_iald 58 282)),
  (282, .inr (c_V 3 285 4 9 (Mt mX9_set 4))),
  (285, .inl (i_icmp (fun x y => x = y) 1514 288)),
  (288, .inl (i_push (.int 0) 289)),
  (289, .inl i_zret),
  (290, .inl (i_aload 1 291)),
  (291, .inl (i_aload 0 292)),
  (292, .inl (i_iload 3 293)),
  (293, .inl (i_push (.int 1) 294)),
  (294, .inl (i_bin (fun x y => x + y) 295)),
  (295, .inl (i_iald 58 296)),
  (296, .inl (i_aload 0 297)),
  (297, .inl (i_iload 3 298)),
  (298, .inl (i_push (.int 2) 299)),
  (299, .inl (i_bin (fun x y => x + y) 300)),
  (300, .inl (i_iald 58 301)),
  (301, .inl (i_aload 0 302)),
  (302, .inl (i_iload 3 303)),
  (303, .inl (i_push (.int 3) 304)),
  (304, .inl (i_bin (fun x y => x + y) 305)),
  (305, .inl (i_iald 58 306)),
  (306, .inl (i_aload 0 307)),
  (307, .inl (i_iload 3 308)),
  (308, .inl (i_push (.int 4) 309)),
  (309, .inl (i_bin (fun x y => x + y) 310)),
  (310, .inl (i_iald 58 311)),
  (311, .inl (i_aload 0 312)),
  (312, .inl (i_iload 3 313)),
  (313, .inl (i_push (.int 5) 314)),
  (314, .inl (i_bin (fun x y => x + y) 315)),
  (315, .inl (i_iald 58 316)),
  (316, .inr (c_V 5 319 9 1 (Mt mX0_copy 9))),
  (319, .inl (i_aload 2 320)),
  (320, .inl (i_aload 0 321)),
  (321, .inl (i_iload 3 322)),
  (322, .inl (i_push (.int 1) 323)),
  (323, .inl (i_bin (fun x y => x + y) 324)),
  (324, .inl (i_iald 58 325)),
  (325, .inl (i_aload 0 326)),
  (326, .inl (i_iload 3 327)),
  (327, .inl (i_push (.int 2) 328)),
  (328, .inl (i_bin (fun x y => x + y) 329)),
  (329, .inl (i_iald 58 330)),
  (330, .inl (i_aload 0 331)),
  (331, .inl (i_iload 3 332)),
  (332, .inl (i_push (.int 3) 333)),
  (333, .inl (i_bin (fun x y => x + y) 334)),
  (334, .inl (i_iald 58 335)),
  (335, .inl (i_aload 0 336)),
  (336, .inl (i_iload 3 337)),
  (337, .inl (i_push (.int 4) 338)),
  (338, .inl (i_bin (fun x y => x + y) 339)),
  (339, .inl (i_iald 58 340)),
  (340, .inl (i_aload 0 341)),
  (341, .inl (i_iload 3 342)),
  (342, .inl (i_push (.int 5) 343)),
  (343, .inl (i_bin (fun x y => x + y) 344)),
  (344, .inl (i_iald 58 345)),
  (345, .inr (c_V 5 348 7 9 (Mt mX9_copy 7))),
  (348, .inl (i_icmp (fun x y => x = y) 1514 351)),
  (351, .inl (i_push (.int 0) 352)),
  (352, .inl i_zret),
  (353, .inl (i_aload 1 354)),
  (354, .inl (i_aload 0 355)),
  (355, .inl (i_iload 3 356)),
  (356, .inl (i_push (.int 1) 357)),
  (357, .inl (i_bin (fun x y => x + y) 358)),
  (358, .inl (i_iald 58 359)),
  (359, .inr (c_V 1 362 3 1 (Mt mX0_drop 3))),
  (362, .inl (i_aload 2 363)),
  (363, .inl (i_aload 0 364)),
  (364, .inl (i_iload 3 365)),
  (365, .inl (i_push (.int 1) 366)),
  (366, .inl (i_bin (fun x y => x + y) 367)),
  (367, .inl (i_iald 58 368)),
  (368, .inr (c_V 1 371 3 9 (Mt mX9_drop 3))),
  (371, .inl (i_icmp (fun x y => x = y) 1514 374)),
  (374, .inl (i_push (.int 0) 375)),
  (375, .inl i_zret),
  (376, .inl (i_aload 1 377)),
  (377, .inl (i_aload 0 378)),
  (378, .inl (i_iload 3 379)),
  (379, .inl (i_push (.int 1) 380)),
  (380, .inl (i_bin (fun x y => x + y) 381)),
  (381, .inl (i_iald 58 382)),
  (382, .inr (c_V 1 385 2 1 (Mt mX0_feed 2))),
  (385, .inl (i_aload 2 386)),
  (386, .inl (i_aload 0 387)),
  (387, .inl (i_iload 3 388)),
  (388, .inl (i_push (.int 1) 389)),
  (389, .inl (i_bin (fun x y => x + y) 390)),
  (390, .inl (i_iald 58 391)),
  (391, .inr (c_V 1 394 2 9 (Mt mX9_feed 2))),
  (394, .inl (i_icmp (fun x y => x = y) 1514 397)),
  (397, .inl (i_push (.int 0) 398)),
  (398, .inl i_zret),
  (399, .inl (i_aload 1 400)),
  (400, .inr (c_V 0 403 3 1 (Mt mX0_library 3))),
  (403, .inl (i_aload 2 404)),
  (404, .inr (c_V 0 407 3 9 (Mt mX9_library 3))),
  (407, .inl (i_icmp (fun x y => x = y) 1514 410)),
  (410, .inl (i_push (.int 0) 411)),
  (411, .inl i_zret),
  (412, .inl (i_aload 1 413)),
  (413, .inr (c_V 0 416 1 1 (Mt mX0_fault 1))),
  (416, .inl (i_aload 2 417)),
  (417, .inr (c_V 0 420 1 9 (Mt mX9_fault 1))),
  (420, .inl (i_icmp (fun x y => x = y) 1514 423)),
  (423, .inl (i_push (.int 0) 424)),
  (424, .inl i_zret),
  (425, .inl (i_aload 1 426)),
  (426, .inr (c_V 0 429 1 1 (Mt mX0_undo 1))),
  (429, .inl (i_aload 2 430)),
  (430, .inr (c_V 0 433 2 9 (Mt mX9_undo 2))),
  (433, .inl (i_icmp (fun x y => x = y) 1514 436)),
  (436, .inl (i_push (.int 0) 437)),
  (437, .inl i_zret),
  (438, .inl (i_aload 1 439)),
  (439, .inl (i_aload 0 440)),
  (440, .inl (i_iload 3 441)),
  (441, .inl (i_push (.int 1) 442)),
  (442, .inl (i_bin (fun x y => x + y) 443)),
  (443, .inl (i_iald 58 444)),
  (444, .inr (c_V 1 447 3 1 (Mt mX0_nights 3))),
  (447, .inl (i_aload 2 448)),
  (448, .inl (i_aload 0 449)),
  (449, .inl (i_iload 3 450)),
  (450, .inl (i_push (.int 1) 451)),
  (451, .inl (i_bin (fun x y => x + y) 452)),
  (452, .inl (i_iald 58 453)),
  (453, .inr (c_V 1 456 3 9 (Mt mX9_nights 3))),
  (456, .inl (i_icmp (fun x y => x = y) 1514 459)),
  (459, .inl (i_push (.int 0) 460)),
  (460, .inl i_zret),
  (461, .inl (i_aload 1 462)),
  (462, .inl (i_aload 0 463)),
  (463, .inl (i_iload 3 464)),
  (464, .inl (i_push (.int 1) 465)),
  (465, .inl (i_bin (fun x y => x + y) 466)),
  (466, .inl (i_iald 58 467)),
  (467, .inl (i_aload 0 468)),
  (468, .inl (i_iload 3 469)),
  (469, .inl (i_push (.int 2) 470)),
  (470, .inl (i_bin (fun x y => x + y) 471)),
  (471, .inl (i_iald 58 472)),
  (472, .inr (c_V 2 475 3 1 (Mt mX0_light 3))),
  (475, .inl (i_aload 2 476)),
  (476, .inl (i_aload 0 477)),
  (477, .inl (i_iload 3 478)),
  (478, .inl (i_push (.int 1) 479)),
  (479, .inl (i_bin (fun x y => x + y) 480)),
  (480, .inl (i_iald 58 481)),
  (481, .inl (i_aload 0 482)),
  (482, .inl (i_iload 3 483)),
  (483, .inl (i_push (.int 2) 484)),
  (484, .inl (i_bin (fun x y => x + y) 485)),
  (485, .inl (i_iald 58 486)),
  (486, .inr (c_V 2 489 3 9 (Mt mX9_light 3))),
  (489, .inl (i_icmp (fun x y => x = y) 1514 492)),
  (492, .inl (i_push (.int 0) 493)),
  (493, .inl i_zret),
  (494, .inl (i_aload 1 495)),
  (495, .inl (i_aload 0 496)),
  (496, .inl (i_iload 3 497)),
  (497, .inl (i_push (.int 1) 498)),
  (498, .inl (i_bin (fun x y => x + y) 499)),
  (499, .inl (i_iald 58 500)),
  (500, .inl (i_aload 0 501)),
  (501, .inl (i_iload 3 502)),
  (502, .inl (i_push (.int 2) 503)),
  (503, .inl (i_bin (fun x y => x + y) 504)),
  (504, .inl (i_iald 58 505)),
  (505, .inr (c_V 2 508 3 1 (Mt mX0_keepIt 3))),
  (508, .inl (i_aload 2 509)),
  (509, .inl (i_aload 0 510)),
  (510, .inl (i_iload 3 511)),
  (511, .inl (i_push (.int 1) 512)),
  (512, .inl (i_bin (fun x y => x + y) 513)),
  (513, .inl (i_iald 58 514)),
  (514, .inl (i_aload 0 515)),
  (515, .inl (i_iload 3 516)),
  (516, .inl (i_push (.int 2) 517)),
  (517, .inl (i_bin (fun x y => x + y) 518)),
  (518, .inl (i_iald 58 519)),
  (519, .inr (c_V 2 522 3 9 (Mt mX9_keepIt 3))),
  (522, .inl (i_icmp (fun x y => x = y) 1514 525)),
  (525, .inl (i_push (.int 0) 526)),
  (526, .inl i_zret),
  (527, .inl (i_aload 1 528)),
  (528, .inl (i_aload 0 529)),
  (529, .inl (i_iload 3 530)),
  (530, .inl (i_push (.int 1) 531)),
  (531, .inl (i_bin (fun x y => x + y) 532)),
  (532, .inl (i_iald 58 533)),
  (533, .inl (i_aload 0 534)),
  (534, .inl (i_iload 3 535)),
  (535, .inl (i_push (.int 2) 536)),
  (536, .inl (i_bin (fun x y => x + y) 537)),
  (537, .inl (i_iald 58 538)),
  (538, .inr (c_V 2 541 4 1 (Mt mX0_change 4))),
  (541, .inl (i_aload 2 542)),
  (542, .inl (i_aload 0 543)),
  (543, .inl (i_iload 3 544)),
  (544, .inl (i_push (.int 1) 545)),
  (545, .inl (i_bin (fun x y => x + y) 546)),
  (546, .inl (i_iald 58 547)),
  (547, .inl (i_aload 0 548)),
  (548, .inl (i_iload 3 549)),
  (549, .inl (i_push (.int 2) 550)),
  (550, .inl (i_bin (fun x y => x + y) 551)),
  (551, .inl (i_iald 58 552)),
  (552, .inr (c_V 2 555 4 9 (Mt mX9_change 4))),
  (555, .inl (i_icmp (fun x y => x = y) 1514 558)),
  (558, .inl (i_push (.int 0) 559)),
  (559, .inl i_zret),
  (560, .inl (i_aload 1 561)),
  (561, .inl (i_aload 0 562)),
  (562, .inl (i_iload 3 563)),
  (563, .inl (i_push (.int 1) 564)),
  (564, .inl (i_bin (fun x y => x + y) 565)),
  (565, .inl (i_iald 58 566)),
  (566, .inl (i_aload 0 567)),
  (567, .inl (i_iload 3 568)),
  (568, .inl (i_push (.int 2) 569)),
  (569, .inl (i_bin (fun x y => x + y) 570)),
  (570, .inl (i_iald 58 571)),
  (571, .inr (c_V 2 574 4 1 (Mt mX0_move 4))),
  (574, .inl (i_aload 2 575)),
  (575, .inl (i_aload 0 576)),
  (576, .inl (i_iload 3 577)),
  (577, .inl (i_push (.int 1) 578)),
  (578, .inl (i_bin (fun x y => x + y) 579)),
  (579, .inl (i_iald 58 580)),
  (580, .inl (i_aload 0 581)),
  (581, .inl (i_iload 3 582)),
  (582, .inl (i_push (.int 2) 583)),
  (583, .inl (i_bin (fun x y => x + y) 584)),
  (584, .inl (i_iald 58 585)),
  (585, .inr (c_V 2 588 4 9 (Mt mX9_move 4))),
  (588, .inl (i_icmp (fun x y => x = y) 1514 591)),
  (591, .inl (i_push (.int 0) 592)),
  (592, .inl i_zret),
  (593, .inl (i_aload 1 594)),
  (594, .inl (i_aload 0 595)),
  (595, .inl (i_iload 3 596)),
  (596, .inl (i_push (.int 1) 597)),
  (597, .inl (i_bin (fun x y => x + y) 598)),
  (598, .inl (i_iald 58 599)),
  (599, .inr (c_V 1 602 2 1 (Mt mX0_catchIt 2))),
  (602, .inl (i_aload 2 603)),
  (603, .inl (i_aload 0 604)),
  (604, .inl (i_iload 3 605)),
  (605, .inl (i_push (.int 1) 606)),
  (606, .inl (i_bin (fun x y => x + y) 607)),
  (607, .inl (i_iald 58 608)),
  (608, .inr (c_V 1 611 2 9 (Mt mX9_catchIt 2))),
  (611, .inl (i_icmp (fun x y => x = y) 1514 614)),
  (614, .inl (i_push (.int 0) 615)),
  (615, .inl i_zret),
  (616, .inl (i_aload 1 617)),
  (617, .inl (i_aload 0 618)),
  (618, .inl (i_iload 3 619)),
  (619, .inl (i_push (.int 1) 620)),
  (620, .inl (i_bin (fun x y => x + y) 621)),
  (621, .inl (i_iald 58 622)),
  (622, .inl (i_aload 0 623)),
  (623, .inl (i_iload 3 624)),
  (624, .inl (i_push (.int 2) 625)),
  (625, .inl (i_bin (fun x y => x + y) 626)),
  (626, .inl (i_iald 58 627)),
  (627, .inr (c_V 2 630 3 1 (Mt mX0_book 3))),
  (630, .inl (i_aload 2 631)),
  (631, .inl (i_aload 0 632)),
  (632, .inl (i_iload 3 633)),
  (633, .inl (i_push (.int 1) 634)),
  (634, .inl (i_bin (fun x y => x + y) 635)),
  (635, .inl (i_iald 58 636)),
  (636, .inl (i_aload 0 637)),
  (637, .inl (i_iload 3 638)),
  (638, .inl (i_push (.int 2) 639)),
  (639, .inl (i_bin (fun x y => x + y) 640)),
  (640, .inl (i_iald 58 641)),
  (641, .inr (c_V 2 644 3 9 (Mt mX9_book 3))),
  (644, .inl (i_icmp (fun x y => x = y) 1514 647)),
  (647, .inl (i_push (.int 0) 648)),
  (648, .inl i_zret),
  (649, .inl (i_aload 1 650)),
  (650, .inl (i_aload 0 651)),
  (651, .inl (i_iload 3 652)),
  (652, .inl (i_push (.int 1) 653)),
  (653, .inl (i_bin (fun x y => x + y) 654)),
  (654, .inl (i_iald 58 655)),
  (655, .inl (i_aload 0 656)),
  (656, .inl (i_iload 3 657)),
  (657, .inl (i_push (.int 2) 658)),
  (658, .inl (i_bin (fun x y => x + y) 659)),
  (659, .inl (i_iald 58 660)),
  (660, .inr (c_V 2 663 4 1 (Mt mX0_fish 4))),
  (663, .inl (i_aload 2 664)),
  (664, .inl (i_aload 0 665)),
  (665, .inl (i_iload 3 666)),
  (666, .inl (i_push (.int 1) 667)),
  (667, .inl (i_bin (fun x y => x + y) 668)),
  (668, .inl (i_iald 58 669)),
  (669, .inl (i_aload 0 670)),
  (670, .inl (i_iload 3 671)),
  (671, .inl (i_push (.int 2) 672)),
  (672, .inl (i_bin (fun x y => x + y) 673)),
  (673, .inl (i_iald 58 674)),
  (674, .inr (c_V 2 677 3 9 (Mt mX9_fish 3))),
  (677, .inl (i_icmp (fun x y => x = y) 1514 680)),
  (680, .inl (i_push (.int 0) 681)),
  (681, .inl i_zret),
  (682, .inl (i_aload 1 683)),
  (683, .inl (i_aload 0 684)),
  (684, .inl (i_iload 3 685)),
  (685, .inl (i_push (.int 1) 686)),
  (686, .inl (i_bin (fun x y => x + y) 687)),
  (687, .inl (i_iald 58 688)),
  (688, .inr (c_V 1 691 2 1 (Mt mX0_stand 2))),
  (691, .inl (i_aload 2 692)),
  (692, .inl (i_aload 0 693)),
  (693, .inl (i_iload 3 694)),
  (694, .inl (i_push (.int 1) 695)),
  (695, .inl (i_bin (fun x y => x + y) 696)),
  (696, .inl (i_iald 58 697)),
  (697, .inr (c_V 1 700 2 9 (Mt mX9_stand 2))),
  (700, .inl (i_icmp (fun x y => x = y) 1514 703)),
  (703, .inl (i_push (.int 0) 704)),
  (704, .inl i_zret),
  (705, .inl (i_aload 1 706)),
  (706, .inl (i_aload 0 707)),
  (707, .inl (i_iload 3 708)),
  (708, .inl (i_push (.int 1) 709)),
  (709, .inl (i_bin (fun x y => x + y) 710)),
  (710, .inl (i_iald 58 711)),
  (711, .inl (i_aload 0 712)),
  (712, .inl (i_iload 3 713)),
  (713, .inl (i_push (.int 2) 714)),
  (714, .inl (i_bin (fun x y => x + y) 715)),
  (715, .inl (i_iald 58 716)),
  (716, .inl (i_aload 0 717)),
  (717, .inl (i_iload 3 718)),
  (718, .inl (i_push (.int 3) 719)),
  (719, .inl (i_bin (fun x y => x + y) 720)),
  (720, .inl (i_iald 58 721)),
  (721, .inr (c_V 3 724 4 1 (Mt mX0_ahead 4))),
  (724, .inl (i_aload 2 725)),
  (725, .inl (i_aload 0 726)),
  (726, .inl (i_iload 3 727)),
  (727, .inl (i_push (.int 1) 728)),
  (728, .inl (i_bin (fun x y => x + y) 729)),
  (729, .inl (i_iald 58 730)),
  (730, .inl (i_aload 0 731)),
  (731, .inl (i_iload 3 732)),
  (732, .inl (i_push (.int 2) 733)),
  (733, .inl (i_bin (fun x y => x + y) 734)),
  (734, .inl (i_iald 58 735)),
  (735, .inl (i_aload 0 736)),
  (736, .inl (i_iload 3 737)),
  (737, .inl (i_push (.int 3) 738)),
  (738, .inl (i_bin (fun x y => x + y) 739)),
  (739, .inl (i_iald 58 740)),
  (740, .inr (c_V 3 743 5 9 (Mt mX9_ahead 5))),
  (743, .inl (i_icmp (fun x y => x = y) 1514 746)),
  (746, .inl (i_push (.int 0) 747)),
  (747, .inl i_zret),
  (748, .inl (i_aload 1 749)),
  (749, .inl (i_aload 0 750)),
  (750, .inl (i_iload 3 751)),
  (751, .inl (i_push (.int 1) 752)),
  (752, .inl (i_bin (fun x y => x + y) 753)),
  (753, .inl (i_iald 58 754)),
  (754, .inl (i_aload 0 755)),
  (755, .inl (i_iload 3 756)),
  (756, .inl (i_push (.int 2) 757)),
  (757, .inl (i_bin (fun x y => x + y) 758)),
  (758, .inl (i_iald 58 759)),
  (759, .inl (i_aload 0 760)),
  (760, .inl (i_iload 3 761)),
  (761, .inl (i_push (.int 3) 762)),
  (762, .inl (i_bin (fun x y => x + y) 763)),
  (763, .inl (i_iald 58 764)),
  (764, .inr (c_V 3 767 4 1 (Mt mX0_later 4))),
  (767, .inl (i_aload 2 768)),
  (768, .inl (i_aload 0 769)),
  (769, .inl (i_iload 3 770)),
  (770, .inl (i_push (.int 1) 771)),
  (771, .inl (i_bin (fun x y => x + y) 772)),
  (772, .inl (i_iald 58 773)),
  (773, .inl (i_aload 0 774)),
  (774, .inl (i_iload 3 775)),
  (775, .inl (i_push (.int 2) 776)),
  (776, .inl (i_bin (fun x y => x + y) 777)),
  (777, .inl (i_iald 58 778)),
  (778, .inl (i_aload 0 779)),
  (779, .inl (i_iload 3 780)),
  (780, .inl (i_push (.int 3) 781)),
  (781, .inl (i_bin (fun x y => x + y) 782)),
  (782, .inl (i_iald 58 783)),
  (783, .inr (c_V 3 786 5 9 (Mt mX9_later 5))),
  (786, .inl (i_icmp (fun x y => x = y) 1514 789)),
  (789, .inl (i_push (.int 0) 790)),
  (790, .inl i_zret),
  (791, .inl (i_aload 1 792)),
  (792, .inl (i_aload 0 793)),
  (793, .inl (i_iload 3 794)),
  (794, .inl (i_push (.int 1) 795)),
  (795, .inl (i_bin (fun x y => x + y) 796)),
  (796, .inl (i_iald 58 797)),
  (797, .inr (c_V 1 800 3 1 (Mt mX0_when 3))),
  (800, .inl (i_aload 2 801)),
  (801, .inl (i_aload 0 802)),
  (802, .inl (i_iload 3 803)),
  (803, .inl (i_push (.int 1) 804)),
  (804, .inl (i_bin (fun x y => x + y) 805)),
  (805, .inl (i_iald 58 806)),
  (806, .inr (c_V 1 809 4 9 (Mt mX9_when 4))),
  (809, .inl (i_icmp (fun x y => x = y) 1514 812)),
  (812, .inl (i_push (.int 0) 813)),
  (813, .inl i_zret),
  (814, .inl (i_aload 1 815)),
  (815, .inl (i_aload 0 816)),
  (816, .inl (i_iload 3 817)),
  (817, .inl (i_push (.int 1) 818)),
  (818, .inl (i_bin (fun x y => x + y) 819)),
  (819, .inl (i_iald 58 820)),
  (820, .inr (c_V 1 823 4 1 (Mt mX0_first 4))),
  (823, .inl (i_aload 2 824)),
  (824, .inl (i_aload 0 825)),
  (825, .inl (i_iload 3 826)),
  (826, .inl (i_push (.int 1) 827)),
  (827, .inl (i_bin (fun x y => x + y) 828)),
  (828, .inl (i_iald 58 829)),
  (829, .inr (c_V 1 832 5 9 (Mt mX9_first 5))),
  (832, .inl (i_icmp (fun x y => x = y) 1514 835)),
  (835, .inl (i_push (.int 0) 836)),
  (836, .inl i_zret),
  (837, .inl (i_aload 1 838)),
  (838, .inl (i_aload 0 839)),
  (839, .inl (i_iload 3 840)),
  (840, .inl (i_push (.int 1) 841)),
  (841, .inl (i_bin (fun x y => x + y) 842)),
  (842, .inl (i_iald 58 843)),
  (843, .inl (i_aload 0 844)),
  (844, .inl (i_iload 3 845)),
  (845, .inl (i_push (.int 2) 846)),
  (846, .inl (i_bin (fun x y => x + y) 847)),
  (847, .inl (i_iald 58 848)),
  (848, .inr (c_V 2 851 6 1 (Mt mX0_hole 6))),
  (851, .inl (i_aload 2 852)),
  (852, .inl (i_aload 0 853)),
  (853, .inl (i_iload 3 854)),
  (854, .inl (i_push (.int 1) 855)),
  (855, .inl (i_bin (fun x y => x + y) 856)),
  (856, .inl (i_iald 58 857)),
  (857, .inl (i_aload 0 858)),
  (858, .inl (i_iload 3 859)),
  (859, .inl (i_push (.int 2) 860)),
  (860, .inl (i_bin (fun x y => x + y) 861)),
  (861, .inl (i_iald 58 862)),
  (862, .inr (c_V 2 865 3 9 (Mt mX9_hole 3))),
  (865, .inl (i_icmp (fun x y => x = y) 1514 868)),
  (868, .inl (i_push (.int 0) 869)),
  (869, .inl i_zret),
  (870, .inl (i_aload 1 871)),
  (871, .inl (i_aload 0 872)),
  (872, .inl (i_iload 3 873)),
  (873, .inl (i_push (.int 1) 874)),
  (874, .inl (i_bin (fun x y => x + y) 875)),
  (875, .inl (i_iald 58 876)),
  (876, .inl (i_aload 0 877)),
  (877, .inl (i_iload 3 878)),
  (878, .inl (i_push (.int 2) 879)),
  (879, .inl (i_bin (fun x y => x + y) 880)),
  (880, .inl (i_iald 58 881)),
  (881, .inl (i_aload 0 882)),
  (882, .inl (i_iload 3 883)),
  (883, .inl (i_push (.int 3) 884)),
  (884, .inl (i_bin (fun x y => x + y) 885)),
  (885, .inl (i_iald 58 886)),
  (886, .inr (c_V 3 889 4 1 (Mt mX0_order 4))),
  (889, .inl (i_aload 2 890)),
  (890, .inl (i_aload 0 891)),
  (891, .inl (i_iload 3 892)),
  (892, .inl (i_push (.int 1) 893)),
  (893, .inl (i_bin (fun x y => x + y) 894)),
  (894, .inl (i_iald 58 895)),
  (895, .inl (i_aload 0 896)),
  (896, .inl (i_iload 3 897)),
  (897, .inl (i_push (.int 2) 898)),
  (898, .inl (i_bin (fun x y => x + y) 899)),
  (899, .inl (i_iald 58 900)),
  (900, .inl (i_aload 0 901)),
  (901, .inl (i_iload 3 902)),
  (902, .inl (i_push (.int 3) 903)),
  (903, .inl (i_bin (fun x y => x + y) 904)),
  (904, .inl (i_iald 58 905)),
  (905, .inr (c_V 3 908 8 9 (Mt mX9_order 8))),
  (908, .inl (i_icmp (fun x y => x = y) 1514 911)),
  (911, .inl (i_push (.int 0) 912)),
  (912, .inl i_zret),
  (913, .inl (i_aload 1 914)),
  (914, .inl (i_aload 0 915)),
  (915, .inl (i_iload 3 916)),
  (916, .inl (i_push (.int 1) 917)),
  (917, .inl (i_bin (fun x y => x + y) 918)),
  (918, .inl (i_iald 58 919)),
  (919, .inl (i_aload 0 920)),
  (920, .inl (i_iload 3 921)),
  (921, .inl (i_push (.int 2) 922)),
  (922, .inl (i_bin (fun x y => x + y) 923)),
  (923, .inl (i_iald 58 924)),
  (924, .inl (i_aload 0 925)),
  (925, .inl (i_iload 3 926)),
  (926, .inl (i_push (.int 3) 927)),
  (927, .inl (i_bin (fun x y => x + y) 928)),
  (928, .inl (i_iald 58 929)),
  (929, .inr (c_V 3 932 8 1 (Mt mX0_lamp 8))),
  (932, .inl (i_aload 2 933)),
  (933, .inl (i_aload 0 934)),
  (934, .inl (i_iload 3 935)),
  (935, .inl (i_push (.int 1) 936)),
  (936, .inl (i_bin (fun x y => x + y) 937)),
  (937, .inl (i_iald 58 938)),
  (938, .inl (i_aload 0 939)),
  (939, .inl (i_iload 3 940)),
  (940, .inl (i_push (.int 2) 941)),
  (941, .inl (i_bin (fun x y => x + y) 942)),
  (942, .inl (i_iald 58 943)),
  (943, .inl (i_aload 0 944)),
  (944, .inl (i_iload 3 945)),
  (945, .inl (i_push (.int 3) 946)),
  (946, .inl (i_bin (fun x y => x + y) 947)),
  (947, .inl (i_iald 58 948)),
  (948, .inr (c_V 3 951 8 9 (Mt mX9_lamp 8))),
  (951, .inl (i_icmp (fun x y => x = y) 1514 954)),
  (954, .inl (i_push (.int 0) 955)),
  (955, .inl i_zret),
  (956, .inl (i_aload 1 957)),
  (957, .inl (i_aload 0 958)),
  (958, .inl (i_iload 3 959)),
  (959, .inl (i_push (.int 1) 960)),
  (960, .inl (i_bin (fun x y => x + y) 961)),
  (961, .inl (i_iald 58 962)),
  (962, .inl (i_aload 0 963)),
  (963, .inl (i_iload 3 964)),
  (964, .inl (i_push (.int 2) 965)),
  (965, .inl (i_bin (fun x y => x + y) 966)),
  (966, .inl (i_iald 58 967)),
  (967, .inl (i_aload 0 968)),
  (968, .inl (i_iload 3 969)),
  (969, .inl (i_push (.int 3) 970)),
  (970, .inl (i_bin (fun x y => x + y) 971)),
  (971, .inl (i_iald 58 972)),
  (972, .inr (c_V 3 975 6 1 (Mt mX0_caught 6))),
  (975, .inl (i_aload 2 976)),
  (976, .inl (i_aload 0 977)),
  (977, .inl (i_iload 3 978)),
  (978, .inl (i_push (.int 1) 979)),
  (979, .inl (i_bin (fun x y => x + y) 980)),
  (980, .inl (i_iald 58 981)),
  (981, .inl (i_aload 0 982)),
  (982, .inl (i_iload 3 983)),
  (983, .inl (i_push (.int 2) 984)),
  (984, .inl (i_bin (fun x y => x + y) 985)),
  (985, .inl (i_iald 58 986)),
  (986, .inl (i_aload 0 987)),
  (987, .inl (i_iload 3 988)),
  (988, .inl (i_push (.int 3) 989)),
  (989, .inl (i_bin (fun x y => x + y) 990)),
  (990, .inl (i_iald 58 991)),
  (991, .inr (c_V 3 994 6 9 (Mt mX9_caught 6))),
  (994, .inl (i_icmp (fun x y => x = y) 1514 997)),
  (997, .inl (i_push (.int 0) 998)),
  (998, .inl i_zret),
  (999, .inl (i_aload 1 1000)),
  (1000, .inl (i_aload 0 1001)),
  (1001, .inl (i_iload 3 1002)),
  (1002, .inl (i_push (.int 1) 1003)),
  (1003, .inl (i_bin (fun x y => x + y) 1004)),
  (1004, .inl (i_iald 58 1005)),
  (1005, .inl (i_aload 0 1006)),
  (1006, .inl (i_iload 3 1007)),
  (1007, .inl (i_push (.int 2) 1008)),
  (1008, .inl (i_bin (fun x y => x + y) 1009)),
  (1009, .inl (i_iald 58 1010)),
  (1010, .inr (c_V 2 1013 7 1 (Mt mX0_grams 7))),
  (1013, .inl (i_aload 2 1014)),
  (1014, .inl (i_aload 0 1015)),
  (1015, .inl (i_iload 3 1016)),
  (1016, .inl (i_push (.int 1) 1017)),
  (1017, .inl (i_bin (fun x y => x + y) 1018)),
  (1018, .inl (i_iald 58 1019)),
  (1019, .inl (i_aload 0 1020)),
  (1020, .inl (i_iload 3 1021)),
  (1021, .inl (i_push (.int 2) 1022)),
  (1022, .inl (i_bin (fun x y => x + y) 1023)),
  (1023, .inl (i_iald 58 1024)),
  (1024, .inr (c_V 2 1027 7 9 (Mt mX9_grams 7))),
  (1027, .inl (i_icmp (fun x y => x = y) 1514 1030)),
  (1030, .inl (i_push (.int 0) 1031)),
  (1031, .inl i_zret),
  (1032, .inl (i_aload 1 1033)),
  (1033, .inl (i_aload 0 1034)),
  (1034, .inl (i_iload 3 1035)),
  (1035, .inl (i_push (.int 1) 1036)),
  (1036, .inl (i_bin (fun x y => x + y) 1037)),
  (1037, .inl (i_iald 58 1038)),
  (1038, .inl (i_aload 0 1039)),
  (1039, .inl (i_iload 3 1040)),
  (1040, .inl (i_push (.int 2) 1041)),
  (1041, .inl (i_bin (fun x y => x + y) 1042)),
  (1042, .inl (i_iald 58 1043)),
  (1043, .inl (i_aload 0 1044)),
  (1044, .inl (i_iload 3 1045)),
  (1045, .inl (i_push (.int 3) 1046)),
  (1046, .inl (i_bin (fun x y => x + y) 1047)),
  (1047, .inl (i_iald 58 1048)),
  (1048, .inl (i_aload 0 1049)),
  (1049, .inl (i_iload 3 1050)),
  (1050, .inl (i_push (.int 4) 1051)),
  (1051, .inl (i_bin (fun x y => x + y) 1052)),
  (1052, .inl (i_iald 58 1053)),
  (1053, .inl (i_aload 0 1054)),
  (1054, .inl (i_iload 3 1055)),
  (1055, .inl (i_push (.int 5) 1056)),
  (1056, .inl (i_bin (fun x y => x + y) 1057)),
  (1057, .inl (i_iald 58 1058)),
  (1058, .inl (i_aload 0 1059)),
  (1059, .inl (i_iload 3 1060)),
  (1060, .inl (i_push (.int 6) 1062)),
  (1062, .inl (i_bin (fun x y => x + y) 1063)),
  (1063, .inl (i_iald 58 1064)),
  (1064, .inr (c_V 6 1067 10 1 (Mt mX0_who 10))),
  (1067, .inl (i_aload 2 1068)),
  (1068, .inl (i_aload 0 1069)),
  (1069, .inl (i_iload 3 1070)),
  (1070, .inl (i_push (.int 1) 1071)),
  (1071, .inl (i_bin (fun x y => x + y) 1072)),
  (1072, .inl (i_iald 58 1073)),
  (1073, .inl (i_aload 0 1074)),
  (1074, .inl (i_iload 3 1075)),
  (1075, .inl (i_push (.int 2) 1076)),
  (1076, .inl (i_bin (fun x y => x + y) 1077)),
  (1077, .inl (i_iald 58 1078)),
  (1078, .inl (i_aload 0 1079)),
  (1079, .inl (i_iload 3 1080)),
  (1080, .inl (i_push (.int 3) 1081)),
  (1081, .inl (i_bin (fun x y => x + y) 1082)),
  (1082, .inl (i_iald 58 1083)),
  (1083, .inl (i_aload 0 1084)),
  (1084, .inl (i_iload 3 1085)),
  (1085, .inl (i_push (.int 4) 1086)),
  (1086, .inl (i_bin (fun x y => x + y) 1087)),
  (1087, .inl (i_iald 58 1088)),
  (1088, .inl (i_aload 0 1089)),
  (1089, .inl (i_iload 3 1090)),
  (1090, .inl (i_push (.int 5) 1091)),
  (1091, .inl (i_bin (fun x y => x + y) 1092)),
  (1092, .inl (i_iald 58 1093)),
  (1093, .inl (i_aload 0 1094)),
  (1094, .inl (i_iload 3 1095)),
  (1095, .inl (i_push (.int 6) 1097)),
  (1097, .inl (i_bin (fun x y => x + y) 1098)),
  (1098, .inl (i_iald 58 1099)),
  (1099, .inr (c_V 6 1102 8 9 (Mt mX9_who 8))),
  (1102, .inl (i_icmp (fun x y => x = y) 1514 1105)),
  (1105, .inl (i_push (.int 0) 1106)),
  (1106, .inl i_zret),
  (1107, .inl (i_aload 1 1108)),
  (1108, .inl (i_aload 0 1109)),
  (1109, .inl (i_iload 3 1110)),
  (1110, .inl (i_push (.int 1) 1111)),
  (1111, .inl (i_bin (fun x y => x + y) 1112)),
  (1112, .inl (i_iald 58 1113)),
  (1113, .inl (i_aload 0 1114)),
  (1114, .inl (i_iload 3 1115)),
  (1115, .inl (i_push (.int 2) 1116)),
  (1116, .inl (i_bin (fun x y => x + y) 1117)),
  (1117, .inl (i_iald 58 1118)),
  (1118, .inl (i_aload 0 1119)),
  (1119, .inl (i_iload 3 1120)),
  (1120, .inl (i_push (.int 3) 1121)),
  (1121, .inl (i_bin (fun x y => x + y) 1122)),
  (1122, .inl (i_iald 58 1123)),
  (1123, .inl (i_aload 0 1124)),
  (1124, .inl (i_iload 3 1125)),
  (1125, .inl (i_push (.int 4) 1126)),
  (1126, .inl (i_bin (fun x y => x + y) 1127)),
  (1127, .inl (i_iald 58 1128)),
  (1128, .inl (i_aload 0 1129)),
  (1129, .inl (i_iload 3 1130)),
  (1130, .inl (i_push (.int 5) 1131)),
  (1131, .inl (i_bin (fun x y => x + y) 1132)),
  (1132, .inl (i_iald 58 1133)),
  (1133, .inr (c_V 5 1136 9 1 (Mt mX0_paste 9))),
  (1136, .inl (i_aload 2 1137)),
  (1137, .inl (i_aload 0 1138)),
  (1138, .inl (i_iload 3 1139)),
  (1139, .inl (i_push (.int 1) 1140)),
  (1140, .inl (i_bin (fun x y => x + y) 1141)),
  (1141, .inl (i_iald 58 1142)),
  (1142, .inl (i_aload 0 1143)),
  (1143, .inl (i_iload 3 1144)),
  (1144, .inl (i_push (.int 2) 1145)),
  (1145, .inl (i_bin (fun x y => x + y) 1146)),
  (1146, .inl (i_iald 58 1147)),
  (1147, .inl (i_aload 0 1148)),
  (1148, .inl (i_iload 3 1149)),
  (1149, .inl (i_push (.int 3) 1150)),
  (1150, .inl (i_bin (fun x y => x + y) 1151)),
  (1151, .inl (i_iald 58 1152)),
  (1152, .inl (i_aload 0 1153)),
  (1153, .inl (i_iload 3 1154)),
  (1154, .inl (i_push (.int 4) 1155)),
  (1155, .inl (i_bin (fun x y => x + y) 1156)),
  (1156, .inl (i_iald 58 1157)),
  (1157, .inl (i_aload 0 1158)),
  (1158, .inl (i_iload 3 1159)),
  (1159, .inl (i_push (.int 5) 1160)),
  (1160, .inl (i_bin (fun x y => x + y) 1161)),
  (1161, .inl (i_iald 58 1162)),
  (1162, .inr (c_V 5 1165 7 9 (Mt mX9_paste 7))),
  (1165, .inl (i_icmp (fun x y => x = y) 1514 1168)),
  (1168, .inl (i_push (.int 0) 1169)),
  (1169, .inl i_zret),
  (1170, .inl (i_aload 1 1171)),
  (1171, .inl (i_aload 0 1172)),
  (1172, .inl (i_iload 3 1173)),
  (1173, .inl (i_push (.int 1) 1174)),
  (1174, .inl (i_bin (fun x y => x + y) 1175)),
  (1175, .inl (i_iald 58 1176)),
  (1176, .inl (i_aload 0 1177)),
  (1177, .inl (i_iload 3 1178)),
  (1178, .inl (i_push (.int 2) 1179)),
  (1179, .inl (i_bin (fun x y => x + y) 1180)),
  (1180, .inl (i_iald 58 1181)),
  (1181, .inl (i_aload 0 1182)),
  (1182, .inl (i_iload 3 1183)),
  (1183, .inl (i_push (.int 3) 1184)),
  (1184, .inl (i_bin (fun x y => x + y) 1185)),
  (1185, .inl (i_iald 58 1186)),
  (1186, .inl (i_aload 0 1187)),
  (1187, .inl (i_iload 3 1188)),
  (1188, .inl (i_push (.int 4) 1189)),
  (1189, .inl (i_bin (fun x y => x + y) 1190)),
  (1190, .inl (i_iald 58 1191)),
  (1191, .inr (c_V 4 1194 8 1 (Mt mX0_hungers 8))),
  (1194, .inl (i_aload 2 1195)),
  (1195, .inl (i_aload 0 1196)),
  (1196, .inl (i_iload 3 1197)),
  (1197, .inl (i_push (.int 1) 1198)),
  (1198, .inl (i_bin (fun x y => x + y) 1199)),
  (1199, .inl (i_iald 58 1200)),
  (1200, .inl (i_aload 0 1201)),
  (1201, .inl (i_iload 3 1202)),
  (1202, .inl (i_push (.int 2) 1203)),
  (1203, .inl (i_bin (fun x y => x + y) 1204)),
  (1204, .inl (i_iald 58 1205)),
  (1205, .inl (i_aload 0 1206)),
  (1206, .inl (i_iload 3 1207)),
  (1207, .inl (i_push (.int 3) 1208)),
  (1208, .inl (i_bin (fun x y => x + y) 1209)),
  (1209, .inl (i_iald 58 1210)),
  (1210, .inl (i_aload 0 1211)),
  (1211, .inl (i_iload 3 1212)),
  (1212, .inl (i_push (.int 4) 1213)),
  (1213, .inl (i_bin (fun x y => x + y) 1214)),
  (1214, .inl (i_iald 58 1215)),
  (1215, .inr (c_V 4 1218 6 9 (Mt mX9_hungers 6))),
  (1218, .inl (i_icmp (fun x y => x = y) 1514 1221)),
  (1221, .inl (i_push (.int 0) 1222)),
  (1222, .inl i_zret),
  (1223, .inl (i_aload 1 1224)),
  (1224, .inl (i_aload 0 1225)),
  (1225, .inl (i_iload 3 1226)),
  (1226, .inl (i_push (.int 1) 1227)),
  (1227, .inl (i_bin (fun x y => x + y) 1228)),
  (1228, .inl (i_iald 58 1229)),
  (1229, .inl (i_aload 0 1230)),
  (1230, .inl (i_iload 3 1231)),
  (1231, .inl (i_push (.int 2) 1232)),
  (1232, .inl (i_bin (fun x y => x + y) 1233)),
  (1233, .inl (i_iald 58 1234)),
  (1234, .inl (i_aload 0 1235)),
  (1235, .inl (i_iload 3 1236)),
  (1236, .inl (i_push (.int 3) 1237)),
  (1237, .inl (i_bin (fun x y => x + y) 1238)),
  (1238, .inl (i_iald 58 1239)),
  (1239, .inl (i_aload 0 1240)),
  (1240, .inl (i_iload 3 1241)),
  (1241, .inl (i_push (.int 4) 1242)),
  (1242, .inl (i_bin (fun x y => x + y) 1243)),
  (1243, .inl (i_iald 58 1244)),
  (1244, .inr (c_V 4 1247 14 1 (Mt mX0_dark 14))),
  (1247, .inl (i_aload 2 1248)),
  (1248, .inl (i_aload 0 1249)),
  (1249, .inl (i_iload 3 1250)),
  (1250, .inl (i_push (.int 1) 1251)),
  (1251, .inl (i_bin (fun x y => x + y) 1252)),
  (1252, .inl (i_iald 58 1253)),
  (1253, .inl (i_aload 0 1254)),
  (1254, .inl (i_iload 3 1255)),
  (1255, .inl (i_push (.int 2) 1256)),
  (1256, .inl (i_bin (fun x y => x + y) 1257)),
  (1257, .inl (i_iald 58 1258)),
  (1258, .inl (i_aload 0 1259)),
  (1259, .inl (i_iload 3 1260)),
  (1260, .inl (i_push (.int 3) 1261)),
  (1261, .inl (i_bin (fun x y => x + y) 1262)),
  (1262, .inl (i_iald 58 1263)),
  (1263, .inl (i_aload 0 1264)),
  (1264, .inl (i_iload 3 1265)),
  (1265, .inl (i_push (.int 4) 1266)),
  (1266, .inl (i_bin (fun x y => x + y) 1267)),
  (1267, .inl (i_iald 58 1268)),
  (1268, .inr (c_V 4 1271 16 9 (Mt mX9_dark 16))),
  (1271, .inl (i_lcmp 1272)),
  (1272, .inl (i_if (fun x => x = 0) 1514 1275)),
  (1275, .inl (i_push (.int 0) 1276)),
  (1276, .inl i_zret),
  (1277, .inl (i_aload 1 1278)),
  (1278, .inl (i_aload 0 1279)),
  (1279, .inl (i_iload 3 1280)),
  (1280, .inl (i_push (.int 1) 1281)),
  (1281, .inl (i_bin (fun x y => x + y) 1282)),
  (1282, .inl (i_iald 58 1283)),
  (1283, .inl (i_aload 0 1284)),
  (1284, .inl (i_iload 3 1285)),
  (1285, .inl (i_push (.int 2) 1286)),
  (1286, .inl (i_bin (fun x y => x + y) 1287)),
  (1287, .inl (i_iald 58 1288)),
  (1288, .inl (i_aload 0 1289)),
  (1289, .inl (i_iload 3 1290)),
  (1290, .inl (i_push (.int 3) 1291)),
  (1291, .inl (i_bin (fun x y => x + y) 1292)),
  (1292, .inl (i_iald 58 1293)),
  (1293, .inr (c_V 3 1296 8 1 (Mt mX0_drawn 8))),
  (1296, .inl (i_aload 2 1297)),
  (1297, .inl (i_aload 0 1298)),
  (1298, .inl (i_iload 3 1299)),
  (1299, .inl (i_push (.int 1) 1300)),
  (1300, .inl (i_bin (fun x y => x + y) 1301)),
  (1301, .inl (i_iald 58 1302)),
  (1302, .inl (i_aload 0 1303)),
  (1303, .inl (i_iload 3 1304)),
  (1304, .inl (i_push (.int 2) 1305)),
  (1305, .inl (i_bin (fun x y => x + y) 1306)),
  (1306, .inl (i_iald 58 1307)),
  (1307, .inl (i_aload 0 1308)),
  (1308, .inl (i_iload 3 1309)),
  (1309, .inl (i_push (.int 3) 1310)),
  (1310, .inl (i_bin (fun x y => x + y) 1311)),
  (1311, .inl (i_iald 58 1312)),
  (1312, .inr (c_V 3 1315 8 9 (Mt mX9_drawn 8))),
  (1315, .inl (i_icmp (fun x y => x = y) 1514 1318)),
  (1318, .inl (i_push (.int 0) 1319)),
  (1319, .inl i_zret),
  (1320, .inl (i_aload 1 1321)),
  (1321, .inl (i_aload 0 1322)),
  (1322, .inl (i_iload 3 1323)),
  (1323, .inl (i_push (.int 1) 1324)),
  (1324, .inl (i_bin (fun x y => x + y) 1325)),
  (1325, .inl (i_iald 58 1326)),
  (1326, .inr (c_V 1 1329 2 1 (Mt mX0_image 2))),
  (1329, .inl (i_aload 2 1330)),
  (1330, .inl (i_aload 0 1331)),
  (1331, .inl (i_iload 3 1332)),
  (1332, .inl (i_push (.int 1) 1333)),
  (1333, .inl (i_bin (fun x y => x + y) 1334)),
  (1334, .inl (i_iald 58 1335)),
  (1335, .inr (c_V 1 1338 3 9 (Mt mX9_image 3))),
  (1338, .inl (i_icmp (fun x y => x = y) 1514 1341)),
  (1341, .inl (i_push (.int 0) 1342)),
  (1342, .inl i_zret),
  (1343, .inl (i_aload 1 1344)),
  (1344, .inl (i_aload 0 1345)),
  (1345, .inl (i_iload 3 1346)),
  (1346, .inl (i_push (.int 1) 1347)),
  (1347, .inl (i_bin (fun x y => x + y) 1348)),
  (1348, .inl (i_iald 58 1349)),
  (1349, .inr (c_V 1 1352 2 1 (Mt mX0_restore 2))),
  (1352, .inl (i_aload 2 1353)),
  (1353, .inl (i_aload 0 1354)),
  (1354, .inl (i_iload 3 1355)),
  (1355, .inl (i_push (.int 1) 1356)),
  (1356, .inl (i_bin (fun x y => x + y) 1357)),
  (1357, .inl (i_iald 58 1358)),
  (1358, .inr (c_V 1 1361 3 9 (Mt mX9_restore 3))),
  (1361, .inl (i_icmp (fun x y => x = y) 1514 1364)),
  (1364, .inl (i_push (.int 0) 1365)),
  (1365, .inl i_zret),
  (1366, .inl (i_aload 1 1367)),
  (1367, .inl (i_aload 0 1368)),
  (1368, .inl (i_iload 3 1369)),
  (1369, .inl (i_push (.int 1) 1370)),
  (1370, .inl (i_bin (fun x y => x + y) 1371)),
  (1371, .inl (i_iald 58 1372)),
  (1372, .inr (c_V 1 1375 2 1 (Mt mX0_kind 2))),
  (1375, .inl (i_aload 2 1376)),
  (1376, .inl (i_aload 0 1377)),
  (1377, .inl (i_iload 3 1378)),
  (1378, .inl (i_push (.int 1) 1379)),
  (1379, .inl (i_bin (fun x y => x + y) 1380)),
  (1380, .inl (i_iald 58 1381)),
  (1381, .inr (c_V 1 1384 2 9 (Mt mX9_kind 2))),
  (1384, .inl (i_icmp (fun x y => x = y) 1514 1387)),
  (1387, .inl (i_push (.int 0) 1388)),
  (1388, .inl i_zret),
  (1389, .inl (i_aload 1 1390)),
  (1390, .inl (i_aload 0 1391)),
  (1391, .inl (i_iload 3 1392)),
  (1392, .inl (i_push (.int 1) 1393)),
  (1393, .inl (i_bin (fun x y => x + y) 1394)),
  (1394, .inl (i_iald 58 1395)),
  (1395, .inl (i_aload 0 1396)),
  (1396, .inl (i_iload 3 1397)),
  (1397, .inl (i_push (.int 2) 1398)),
  (1398, .inl (i_bin (fun x y => x + y) 1399)),
  (1399, .inl (i_iald 58 1400)),
  (1400, .inr (c_V 2 1403 5 1 (Mt mX0_as 5))),
  (1403, .inl (i_aload 2 1404)),
  (1404, .inl (i_aload 0 1405)),
  (1405, .inl (i_iload 3 1406)),
  (1406, .inl (i_push (.int 1) 1407)),
  (1407, .inl (i_bin (fun x y => x + y) 1408)),
  (1408, .inl (i_iald 58 1409)),
  (1409, .inl (i_aload 0 1410)),
  (1410, .inl (i_iload 3 1411)),
  (1411, .inl (i_push (.int 2) 1412)),
  (1412, .inl (i_bin (fun x y => x + y) 1413)),
  (1413, .inl (i_iald 58 1414)),
  (1414, .inr (c_V 2 1417 3 9 (Mt mX9_as 3))),
  (1417, .inl (i_icmp (fun x y => x = y) 1514 1420)),
  (1420, .inl (i_push (.int 0) 1421)),
  (1421, .inl i_zret),
  (1422, .inl (i_aload 1 1423)),
  (1423, .inl (i_aload 0 1424)),
  (1424, .inl (i_iload 3 1425)),
  (1425, .inl (i_push (.int 1) 1426)),
  (1426, .inl (i_bin (fun x y => x + y) 1427)),
  (1427, .inl (i_iald 58 1428)),
  (1428, .inl (i_aload 0 1429)),
  (1429, .inl (i_iload 3 1430)),
  (1430, .inl (i_push (.int 2) 1431)),
  (1431, .inl (i_bin (fun x y => x + y) 1432)),
  (1432, .inl (i_iald 58 1433)),
  (1433, .inr (c_V 2 1436 4 1 (Mt mX0_ask 4))),
  (1436, .inl (i_aload 2 1437)),
  (1437, .inl (i_aload 0 1438)),
  (1438, .inl (i_iload 3 1439)),
  (1439, .inl (i_push (.int 1) 1440)),
  (1440, .inl (i_bin (fun x y => x + y) 1441)),
  (1441, .inl (i_iald 58 1442)),
  (1442, .inl (i_aload 0 1443)),
  (1443, .inl (i_iload 3 1444)),
  (1444, .inl (i_push (.int 2) 1445)),
  (1445, .inl (i_bin (fun x y => x + y) 1446)),
  (1446, .inl (i_iald 58 1447)),
  (1447, .inr (c_V 2 1450 3 9 (Mt mX9_ask 3))),
  (1450, .inl (i_icmp (fun x y => x = y) 1514 1453)),
  (1453, .inl (i_push (.int 0) 1454)),
  (1454, .inl i_zret),
  (1455, .inl (i_aload 1 1456)),
  (1456, .inl (i_aload 0 1457)),
  (1457, .inl (i_iload 3 1458)),
  (1458, .inl (i_push (.int 1) 1459)),
  (1459, .inl (i_bin (fun x y => x + y) 1460)),
  (1460, .inl (i_iald 58 1461)),
  (1461, .inr (c_V 1 1464 2 1 (Mt mX0_trace 2))),
  (1464, .inl (i_aload 2 1465)),
  (1465, .inl (i_aload 0 1466)),
  (1466, .inl (i_iload 3 1467)),
  (1467, .inl (i_push (.int 1) 1468)),
  (1468, .inl (i_bin (fun x y => x + y) 1469)),
  (1469, .inl (i_iald 58 1470)),
  (1470, .inr (c_V 1 1473 2 9 (Mt mX9_trace 2))),
  (1473, .inl (i_icmp (fun x y => x = y) 1514 1476)),
  (1476, .inl (i_push (.int 0) 1477)),
  (1477, .inl i_zret),
  (1478, .inl (i_aload 1 1479)),
  (1479, .inl (i_aload 0 1480)),
  (1480, .inl (i_iload 3 1481)),
  (1481, .inl (i_push (.int 1) 1482)),
  (1482, .inl (i_bin (fun x y => x + y) 1483)),
  (1483, .inl (i_iald 58 1484)),
  (1484, .inr (c_V 1 1487 4 1 (Mt mX0_count 4))),
  (1487, .inl (i_aload 2 1488)),
  (1488, .inl (i_aload 0 1489)),
  (1489, .inl (i_iload 3 1490)),
  (1490, .inl (i_push (.int 1) 1491)),
  (1491, .inl (i_bin (fun x y => x + y) 1492)),
  (1492, .inl (i_iald 58 1493)),
  (1493, .inr (c_V 1 1496 5 9 (Mt mX9_count 5))),
  (1496, .inl (i_icmp (fun x y => x = y) 1514 1499)),
  (1499, .inl (i_push (.int 0) 1500)),
  (1500, .inl i_zret),
  (1501, .inl (i_aload 1 1502)),
  (1502, .inr (c_V 0 1505 1 1 (Mt mX0_status 1))),
  (1505, .inl (i_aload 2 1506)),
  (1506, .inr (c_V 0 1509 1 9 (Mt mX9_status 1))),
  (1509, .inl (i_icmp (fun x y => x = y) 1514 1512)),
  (1512, .inl (i_push (.int 0) 1513)),
  (1513, .inl i_zret),
  (1514, .inl (i_iinc 3 7 1517)),
  (1517, .inl (i_goto 18)),
  (1520, .inl (i_push (.int 1) 1521)),
  (1521, .inl i_zret)], noH)
theorem rL_law_0 (Q : Po) (h : Hp) (ls : List Value) (st : List Value) : Ex mL_law Q 0 ls st h = ((1 ≤ gC h ∧ 15 ≤ gS h) ∧ Ex mL_law Q 3 ls (.ref (gN h) :: st) (nO h 1 15)) := Ex_gd rfl rfl
theorem rL_law_3 (Q : Po) (h : Hp) (ls : List Value) (st : List Value) (x : Nat) : Ex mL_law Q 3 ls (.ref x :: st) h = Ex mL_law Q 4 ls (.ref x :: .ref x :: st) h := Ex_nx rfl rfl
theorem rL_law_4 (Q : Po) (h : Hp) (ls : List Value) (s0 : Value) (b : Nat) : Ex mL_law Q 4 ls (.ref b :: [s0]) h = Ex mX0_init (Cont mL_law Q 4 ls 7 [s0]) 0 [.ref b] [] h := Ex_cl (n := 1) (as := [.ref b]) rfl rfl
theorem rL_law_7 (Q : Po) (h : Hp) (l0 l1 l2 l3 : Value) (x : Nat) (st : List Value) : Ex mL_law Q 7 [l0, l1, l2, l3] (.ref x :: st) h = Ex mL_law Q 8 [l0, .ref x, l2, l3] st h := Ex_nx rfl rfl
theorem rL_law_8 (Q : Po) (h : Hp) (ls : List Value) (st : List Value) : Ex mL_law Q 8 ls st h = ((1 ≤ gC h ∧ 26 ≤ gS h) ∧ Ex mL_law Q 11 ls (.ref (gN h) :: st) (nO h 9 26)) := Ex_gd rfl rfl
theorem rL_law_11 (Q : Po) (h : Hp) (ls : List Value) (st : List Value) (x : Nat) : Ex mL_law Q 11 ls (.ref x :: st) h = Ex mL_law Q 12 ls (.ref x :: .ref x :: st) h := Ex_nx rfl rfl
theorem rL_law_12 (Q : Po) (h : Hp) (ls : List Value) (s0 : Value) (b : Nat) : Ex mL_law Q 12 ls (.ref b :: [s0]) h = Ex mX9_init (Cont mL_law Q 12 ls 15 [s0]) 0 [.ref b, .retAddr 0] [] h := Ex_cl (n := 2) (as := [.ref b]) rfl rfl
theorem rL_law_15 (Q : Po) (h : Hp) (l0 l1 l2 l3 : Value) (x : Nat) (st : List Value) : Ex mL_law Q 15 [l0, l1, l2, l3] (.ref x :: st) h = Ex mL_law Q 16 [l0, l1, .ref x, l3] st h := Ex_nx rfl rfl
theorem rL_law_16 (Q : Po) (h : Hp) (ls : List Value) (st : List Value) : Ex mL_law Q 16 ls st h = Ex mL_law Q 17 ls (.int 0 :: st) h := Ex_nx rfl rfl
theorem rL_law_17 (Q : Po) (h : Hp) (l0 l1 l2 l3 : Value) (x : Int32) (st : List Value) : Ex mL_law Q 17 [l0, l1, l2, l3] (.int x :: st) h = Ex mL_law Q 18 [l0, l1, l2, .int x] st h := Ex_nx rfl rfl
theorem rL_law_18 (Q : Po) (h : Hp) (l0 l1 l2 : Value) (x : Int32) (st : List Value) : Ex mL_law Q 18 [l0, l1, l2, .int x] st h = Ex mL_law Q 19 [l0, l1, l2, .int x] (.int x :: st) h := Ex_nx rfl rfl
theorem rL_law_19 (Q : Po) (h : Hp) (l1 l2 l3 : Value) (x : Nat) (st : List Value) : Ex mL_law Q 19 [.ref x, l1, l2, l3] st h = Ex mL_law Q 20 [.ref x, l1, l2, l3] (.ref x :: st) h := Ex_nx rfl rfl
theorem rL_law_20 (Q : Po) (h : Hp) (ls : List Value) (st : List Value) (a : Nat) : Ex mL_law Q 20 ls (.ref a :: st) h = (gK h a ∈ ([58] : List Nat) ∧ Ex mL_law Q 21 ls (.int (nI (gL h a)) :: st) h) := Ex_gd rfl rfl
theorem rL_law_21 (Q : Po) (h : Hp) (ls : List Value) (st : List Value) : Ex mL_law Q 21 ls st h = Ex mL_law Q 23 ls (.int 7 :: st) h := Ex_nx rfl rfl
theorem rL_law_23 (Q : Po) (h : Hp) (ls : List Value) (st : List Value) (x y : Int32) : Ex mL_law Q 23 ls (.int y :: .int x :: st) h = Ex mL_law Q 24 ls (.int (x - y) :: st) h := Ex_nx rfl rfl
theorem rL_law_24 (Q : Po) (h : Hp) (ls : List Value) (st : List Value) (x y : Int32) : Ex mL_law Q 24 ls (.int y :: .int x :: st) h = if y < x then Ex mL_law Q 1520 ls st h else Ex mL_law Q 27 ls st h := Ex_br rfl rfl
theorem rL_law_27 (Q : Po) (h : Hp) (l1 l2 l3 : Value) (x : Nat) (st : List Value) : Ex mL_law Q 27 [.ref x, l1, l2, l3] st h = Ex mL_law Q 28 [.ref x, l1, l2, l3] (.ref x :: st) h := Ex_nx rfl rfl
theorem rL_law_28 (Q : Po) (h : Hp) (l0 l1 l2 : Value) (x : Int32) (st : List Value) : Ex mL_law Q 28 [l0, l1, l2, .int x] st h = Ex mL_law Q 29 [l0, l1, l2, .int x] (.int x :: st) h := Ex_nx rfl rfl
theorem rL_law_29 (Q : Po) (h : Hp) (ls : List Value) (st : List Value) (a : Nat) (i : Int32) : Ex mL_law Q 29 ls (.int i :: .ref a :: st) h = ((gK h a = 58 ∧ ¬ (i < 0 ∨ gL h a ≤ i.toNatClampNeg)) ∧ Ex mL_law Q 30 ls (.int (gI h a i.toNatClampNeg) :: st) h) := Ex_gd rfl rfl
theorem rL_law_30 (Q : Po) (h : Hp) (ls : List Value) (st : List Value) : Ex mL_law Q 30 ls st h = Ex mL_law Q 32 ls (.int 63 :: st) h := Ex_nx rfl rfl
theorem rL_law_32 (Q : Po) (h : Hp) (ls : List Value) (st : List Value) (x y : Int32) : Ex mL_law Q 32 ls (.int y :: .int x :: st) h = Ex mL_law Q 33 ls (.int (x &&& y) :: st) h := Ex_nx rfl rfl
theorem rL_law_33 (Q : Po) (h : Hp) (ls : List Value) (st : List Value) (x : Int32) : Ex mL_law Q 33 ls (.int x :: st) h = Ex mL_law Q (tswT 0 [204, 247, 290, 353, 376, 399, 412, 425, 438, 461, 494, 527, 560, 593, 616, 649, 682, 705, 748, 791, 814, 837, 870, 913, 956, 999, 1032, 1107, 1170, 1223, 1277, 1320, 1343, 1366, 1389, 1422, 1455, 1478, 1501] 1514 x) ls st h := Ex_nx rfl rfl
theorem rL_law_204 (Q : Po) (h : Hp) (l0 l2 l3 : Value) (x : Nat) (st : List Value) : Ex mL_law Q 204 [l0, .ref x, l2, l3] st h = Ex mL_law Q 205 [l0, .ref x, l2, l3] (.ref x :: st) h := Ex_nx rfl rfl
theorem rL_law_205 (Q : Po) (h : Hp) (l1 l2 l3 : Value) (x : Nat) (st : List Value) : Ex mL_law Q 205 [.ref x, l1, l2, l3] st h = Ex mL_law Q 206 [.ref x, l1, l2, l3] (.ref x :: st) h := Ex_nx rfl rfl
theorem rL_law_206 (Q : Po) (h : Hp) (l0 l1 l2 : Value) (x : Int32) (st : List Value) : Ex mL_law Q 206 [l0, l1, l2, .int x] st h = Ex mL_law Q 207 [l0, l1, l2, .int x] (.int x :: st) h := Ex_nx rfl rfl
theorem rL_law_207 (Q : Po) (h : Hp) (ls : List Value) (st : List Value) : Ex mL_law Q 207 ls st h = Ex mL_law Q 208 ls (.int 1 :: st) h := Ex_nx rfl rfl
theorem rL_law_208 (Q : Po) (h : Hp) (ls : List Value) (st : List Value) (x y : Int32) : Ex mL_law Q 208 ls (.int y :: .int x :: st) h = Ex mL_law Q 209 ls (.int (x + y) :: st) h := Ex_nx rfl rfl
theorem rL_law_209 (Q : Po) (h : Hp) (ls : List Value) (st : List Value) (a : Nat) (i : Int32) : Ex mL_law Q 209 ls (.int i :: .ref a :: st) h = ((gK h a = 58 ∧ ¬ (i < 0 ∨ gL h a ≤ i.toNatClampNeg)) ∧ Ex mL_law Q 210 ls (.int (gI h a i.toNatClampNeg) :: st) h) := Ex_gd rfl rfl
theorem rL_law_210 (Q : Po) (h : Hp) (l1 l2 l3 : Value) (x : Nat) (st : List Value) : Ex mL_law Q 210 [.ref x, l1, l2, l3] st h = Ex mL_law Q 211 [.ref x, l1, l2, l3] (.ref x :: st) h := Ex_nx rfl rfl
theorem rL_law_211 (Q : Po) (h : Hp) (l0 l1 l2 : Value) (x : Int32) (st : List Value) : Ex mL_law Q 211 [l0, l1, l2, .int x] st h = Ex mL_law Q 212 [l0, l1, l2, .int x] (.int x :: st) h := Ex_nx rfl rfl
theorem rL_law_212 (Q : Po) (h : Hp) (ls : List Value) (st : List Value) : Ex mL_law Q 212 ls st h = Ex mL_law Q 213 ls (.int 2 :: st) h := Ex_nx rfl rfl
theorem rL_law_213 (Q : Po) (h : Hp) (ls : List Value) (st : List Value) (x y : Int32) : Ex mL_law Q 213 ls (.int y :: .int x :: st) h = Ex mL_law Q 214 ls (.int (x + y) :: st) h := Ex_nx rfl rfl
theorem rL_law_214 (Q : Po) (h : Hp) (ls : List Value) (st : List Value) (a : Nat) (i : Int32) : Ex mL_law Q 214 ls (.int i :: .ref a :: st) h = ((gK h a = 58 ∧ ¬ (i < 0 ∨ gL h a ≤ i.toNatClampNeg)) ∧ Ex mL_law Q 215 ls (.int (gI h a i.toNatClampNeg) :: st) h) := Ex_gd rfl rfl
theorem rL_law_215 (Q : Po) (h : Hp) (l1 l2 l3 : Value) (x : Nat) (st : List Value) : Ex mL_law Q 215 [.ref x, l1, l2, l3] st h = Ex mL_law Q 216 [.ref x, l1, l2, l3] (.ref x :: st) h := Ex_nx rfl rfl
theorem rL_law_216 (Q : Po) (h : Hp) (l0 l1 l2 : Value) (x : Int32) (st : List Value) : Ex mL_law Q 216 [l0, l1, l2, .int x] st h = Ex mL_law Q 217 [l0, l1, l2, .int x] (.int x :: st) h := Ex_nx rfl rfl
theorem rL_law_217 (Q : Po) (h : Hp) (ls : List Value) (st : List Value) : Ex mL_law Q 217 ls st h = Ex mL_law Q 218 ls (.int 3 :: st) h := Ex_nx rfl rfl
theorem rL_law_218 (Q : Po) (h : Hp) (ls : List Value) (st : List Value) (x y : Int32) : Ex mL_law Q 218 ls (.int y :: .int x :: st) h = Ex mL_law Q 219 ls (.int (x + y) :: st) h := Ex_nx rfl rfl
theorem rL_law_219 (Q : Po) (h : Hp) (ls : List Value) (st : List Value) (a : Nat) (i : Int32) : Ex mL_law Q 219 ls (.int i :: .ref a :: st) h = ((gK h a = 58 ∧ ¬ (i < 0 ∨ gL h a ≤ i.toNatClampNeg)) ∧ Ex mL_law Q 220 ls (.int (gI h a i.toNatClampNeg) :: st) h) := Ex_gd rfl rfl
theorem rL_law_220 (Q : Po) (h : Hp) (ls : List Value) (a0 : Int32) (a1 : Int32) (a2 : Int32) (b : Nat) : Ex mL_law Q 220 ls (.int a2 :: .int a1 :: .int a0 :: .ref b :: []) h = (gK h b = 1 ∧ Ex mX0_row (Cont mL_law Q 220 ls 223 []) 0 [.ref b, .int a0, .int a1, .int a2, .retAddr 0] [] h) := Ex_cg (n := 5) (as := [.ref b, .int a0, .int a1, .int a2]) rfl rfl
theorem rL_law_223 (Q : Po) (h : Hp) (l0 l1 l3 : Value) (x : Nat) (st : List Value) : Ex mL_law Q 223 [l0, l1, .ref x, l3] st h = Ex mL_law Q 224 [l0, l1, .ref x, l3] (.ref x :: st) h := Ex_nx rfl rfl
theorem rL_law_224 (Q : Po) (h : Hp) (l1 l2 l3 : Value) (x : Nat) (st : List Value) : Ex mL_law Q 224 [.ref x, l1, l2, l3] st h = Ex mL_law Q 225 [.ref x, l1, l2, l3] (.ref x :: st) h := Ex_nx rfl rfl
theorem rL_law_225 (Q : Po) (h : Hp) (l0 l1 l2 : Value) (x : Int32) (st : List Value) : Ex mL_law Q 225 [l0, l1, l2, .int x] st h = Ex mL_law Q 226 [l0, l1, l2, .int x] (.int x :: st) h := Ex_nx rfl rfl
theorem rL_law_226 (Q : Po) (h : Hp) (ls : List Value) (st : List Value) : Ex mL_law Q 226 ls st h = Ex mL_law Q 227 ls (.int 1 :: st) h := Ex_nx rfl rfl
theorem rL_law_227 (Q : Po) (h : Hp) (ls : List Value) (st : List Value) (x y : Int32) : Ex mL_law Q 227 ls (.int y :: .int x :: st) h = Ex mL_law Q 228 ls (.int (x + y) :: st) h := Ex_nx rfl rfl
theorem rL_law_228 (Q : Po) (h : Hp) (ls : List Value) (st : List Value) (a : Nat) (i : Int32) : Ex mL_law Q 228 ls (.int i :: .ref a :: st) h = ((gK h a = 58 ∧ ¬ (i < 0 ∨ gL h a ≤ i.toNatClampNeg)) ∧ Ex mL_law Q 229 ls (.int (gI h a i.toNatClampNeg) :: st) h) := Ex_gd rfl rfl
theorem rL_law_229 (Q : Po) (h : Hp) (l1 l2 l3 : Value) (x : Nat) (st : List Value) : Ex mL_law Q 229 [.ref x, l1, l2, l3] st h = Ex mL_law Q 230 [.ref x, l1, l2, l3] (.ref x :: st) h := Ex_nx rfl rfl
theorem rL_law_230 (Q : Po) (h : Hp) (l0 l1 l2 : Value) (x : Int32) (st : List Value) : Ex mL_law Q 230 [l0, l1, l2, .int x] st h = Ex mL_law Q 231 [l0, l1, l2, .int x] (.int x :: st) h := Ex_nx rfl rfl
theorem rL_law_231 (Q : Po) (h : Hp) (ls : List Value) (st : List Value) : Ex mL_law Q 231 ls st h = Ex mL_law Q 232 ls (.int 2 :: st) h := Ex_nx rfl rfl
theorem rL_law_232 (Q : Po) (h : Hp) (ls : List Value) (st : List Value) (x y : Int32) : Ex mL_law Q 232 ls (.int y :: .int x :: st) h = Ex mL_law Q 233 ls (.int (x + y) :: st) h := Ex_nx rfl rfl
theorem rL_law_233 (Q : Po) (h : Hp) (ls : List Value) (st : List Value) (a : Nat) (i : Int32) : Ex mL_law Q 233 ls (.int i :: .ref a :: st) h = ((gK h a = 58 ∧ ¬ (i < 0 ∨ gL h a ≤ i.toNatClampNeg)) ∧ Ex mL_law Q 234 ls (.int (gI h a i.toNatClampNeg) :: st) h) := Ex_gd rfl rfl
theorem rL_law_234 (Q : Po) (h : Hp) (l1 l2 l3 : Value) (x : Nat) (st : List Value) : Ex mL_law Q 234 [.ref x, l1, l2, l3] st h = Ex mL_law Q 235 [.ref x, l1, l2, l3] (.ref x :: st) h := Ex_nx rfl rfl
theorem rL_law_235 (Q : Po) (h : Hp) (l0 l1 l2 : Value) (x : Int32) (st : List Value) : Ex mL_law Q 235 [l0, l1, l2, .int x] st h = Ex mL_law Q 236 [l0, l1, l2, .int x] (.int x :: st) h := Ex_nx rfl rfl
theorem rL_law_236 (Q : Po) (h : Hp) (ls : List Value) (st : List Value) : Ex mL_law Q 236 ls st h = Ex mL_law Q 237 ls (.int 3 :: st) h := Ex_nx rfl rfl
theorem rL_law_237 (Q : Po) (h : Hp) (ls : List Value) (st : List Value) (x y : Int32) : Ex mL_law Q 237 ls (.int y :: .int x :: st) h = Ex mL_law Q 238 ls (.int (x + y) :: st) h := Ex_nx rfl rfl
theorem rL_law_238 (Q : Po) (h : Hp) (ls : List Value) (st : List Value) (a : Nat) (i : Int32) : Ex mL_law Q 238 ls (.int i :: .ref a :: st) h = ((gK h a = 58 ∧ ¬ (i < 0 ∨ gL h a ≤ i.toNatClampNeg)) ∧ Ex mL_law Q 239 ls (.int (gI h a i.toNatClampNeg) :: st) h) := Ex_gd rfl rfl
theorem rL_law_239 (Q : Po) (h : Hp) (ls : List Value) (a0 : Int32) (a1 : Int32) (a2 : Int32) (s0 : Value) (b : Nat) : Ex mL_law Q 239 ls (.int a2 :: .int a1 :: .int a0 :: .ref b :: [s0]) h = (gK h b = 9 ∧ Ex mX9_row (Cont mL_law Q 239 ls 242 [s0]) 0 [.ref b, .int a0, .int a1, .int a2, .retAddr 0] [] h) := Ex_cg (n := 5) (as := [.ref b, .int a0, .int a1, .int a2]) rfl rfl
theorem rL_law_242 (Q : Po) (h : Hp) (ls : List Value) (st : List Value) (x y : Int32) : Ex mL_law Q 242 ls (.int y :: .int x :: st) h = if x = y then Ex mL_law Q 1514 ls st h else Ex mL_law Q 245 ls st h := Ex_br rfl rfl
theorem rL_law_245 (Q : Po) (h : Hp) (ls : List Value) (st : List Value) : Ex mL_law Q 245 ls st h = Ex mL_law Q 246 ls (.int 0 :: st) h := Ex_nx rfl rfl
theorem rL_law_246 (Q : Po) (h : Hp) (ls : List Value) (x : Int32) : Ex mL_law Q 246 ls [.int x] h = ((x = 0 ∨ x = 1) ∧ Q (.inl (some (.int x))) h) := Ex_rg rfl rfl
theorem rL_law_247 (Q : Po) (h : Hp) (l0 l2 l3 : Value) (x : Nat) (st : List Value) : Ex mL_law Q 247 [l0, .ref x, l2, l3] st h = Ex mL_law Q 248 [l0, .ref x, l2, l3] (.ref x :: st) h := Ex_nx rfl rfl
theorem rL_law_248 (Q : Po) (h : Hp) (l1 l2 l3 : Value) (x : Nat) (st : List Value) : Ex mL_law Q 248 [.ref x, l1, l2, l3] st h = Ex mL_law Q 249 [.ref x, l1, l2, l3] (.ref x :: st) h := Ex_nx rfl rfl
theorem rL_law_249 (Q : Po) (h : Hp) (l0 l1 l2 : Value) (x : Int32) (st : List Value) : Ex mL_law Q 249 [l0, l1, l2, .int x] st h = Ex mL_law Q 250 [l0, l1, l2, .int x] (.int x :: st) h := Ex_nx rfl rfl
theorem rL_law_250 (Q : Po) (h : Hp) (ls : List Value) (st : List Value) : Ex mL_law Q 250 ls st h = Ex mL_law Q 251 ls (.int 1 :: st) h := Ex_nx rfl rfl
theorem rL_law_251 (Q : Po) (h : Hp) (ls : List Value) (st : List Value) (x y : Int32) : Ex mL_law Q 251 ls (.int y :: .int x :: st) h = Ex mL_law Q 252 ls (.int (x + y) :: st) h := Ex_nx rfl rfl
theorem rL_law_252 (Q : Po) (h : Hp) (ls : List Value) (st : List Value) (a : Nat) (i : Int32) : Ex mL_law Q 252 ls (.int i :: .ref a :: st) h = ((gK h a = 58 ∧ ¬ (i < 0 ∨ gL h a ≤ i.toNatClampNeg)) ∧ Ex mL_law Q 253 ls (.int (gI h a i.toNatClampNeg) :: st) h) := Ex_gd rfl rfl
theorem rL_law_253 (Q : Po) (h : Hp) (l1 l2 l3 : Value) (x : Nat) (st : List Value) : Ex mL_law Q 253 [.ref x, l1, l2, l3] st h = Ex mL_law Q 254 [.ref x, l1, l2, l3] (.ref x :: st) h := Ex_nx rfl rfl
theorem rL_law_254 (Q : Po) (h : Hp) (l0 l1 l2 : Value) (x : Int32) (st : List Value) : Ex mL_law Q 254 [l0, l1, l2, .int x] st h = Ex mL_law Q 255 [l0, l1, l2, .int x] (.int x :: st) h := Ex_nx rfl rfl
theorem rL_law_255 (Q : Po) (h : Hp) (ls : List Value) (st : List Value) : Ex mL_law Q 255 ls st h = Ex mL_law Q 256 ls (.int 2 :: st) h := Ex_nx rfl rfl
theorem rL_law_256 (Q : Po) (h : Hp) (ls : List Value) (st : List Value) (x y : Int32) : Ex mL_law Q 256 ls (.int y :: .int x :: st) h = Ex mL_law Q 257 ls (.int (x + y) :: st) h := Ex_nx rfl rfl
theorem rL_law_257 (Q : Po) (h : Hp) (ls : List Value) (st : List Value) (a : Nat) (i : Int32) : Ex mL_law Q 257 ls (.int i :: .ref a :: st) h = ((gK h a = 58 ∧ ¬ (i < 0 ∨ gL h a ≤ i.toNatClampNeg)) ∧ Ex mL_law Q 258 ls (.int (gI h a i.toNatClampNeg) :: st) h) := Ex_gd rfl rfl
theorem rL_law_258 (Q : Po) (h : Hp) (l1 l2 l3 : Value) (x : Nat) (st : List Value) : Ex mL_law Q 258 [.ref x, l1, l2, l3] st h = Ex mL_law Q 259 [.ref x, l1, l2, l3] (.ref x :: st) h := Ex_nx rfl rfl
theorem rL_law_259 (Q : Po) (h : Hp) (l0 l1 l2 : Value) (x : Int32) (st : List Value) : Ex mL_law Q 259 [l0, l1, l2, .int x] st h = Ex mL_law Q 260 [l0, l1, l2, .int x] (.int x :: st) h := Ex_nx rfl rfl
theorem rL_law_260 (Q : Po) (h : Hp) (ls : List Value) (st : List Value) : Ex mL_law Q 260 ls st h = Ex mL_law Q 261 ls (.int 3 :: st) h := Ex_nx rfl rfl
theorem rL_law_261 (Q : Po) (h : Hp) (ls : List Value) (st : List Value) (x y : Int32) : Ex mL_law Q 261 ls (.int y :: .int x :: st) h = Ex mL_law Q 262 ls (.int (x + y) :: st) h := Ex_nx rfl rfl
theorem rL_law_262 (Q : Po) (h : Hp) (ls : List Value) (st : List Value) (a : Nat) (i : Int32) : Ex mL_law Q 262 ls (.int i :: .ref a :: st) h = ((gK h a = 58 ∧ ¬ (i < 0 ∨ gL h a ≤ i.toNatClampNeg)) ∧ Ex mL_law Q 263 ls (.int (gI h a i.toNatClampNeg) :: st) h) := Ex_gd rfl rfl
theorem rL_law_263 (Q : Po) (h : Hp) (ls : List Value) (a0 : Int32) (a1 : Int32) (a2 : Int32) (b : Nat) : Ex mL_law Q 263 ls (.int a2 :: .int a1 :: .int a0 :: .ref b :: []) h = (gK h b = 1 ∧ Ex mX0_set (Cont mL_law Q 263 ls 266 []) 0 [.ref b, .int a0, .int a1, .int a2, .retAddr 0] [] h) := Ex_cg (n := 5) (as := [.ref b, .int a0, .int a1, .int a2]) rfl rfl
theorem rL_law_266 (Q : Po) (h : Hp) (l0 l1 l3 : Value) (x : Nat) (st : List Value) : Ex mL_law Q 266 [l0, l1, .ref x, l3] st h = Ex mL_law Q 267 [l0, l1, .ref x, l3] (.ref x :: st) h := Ex_nx rfl rfl
theorem rL_law_267 (Q : Po) (h : Hp) (l1 l2 l3 : Value) (x : Nat) (st : List Value) : Ex mL_law Q 267 [.ref x, l1, l2, l3] st h = Ex mL_law Q 268 [.ref x, l1, l2, l3] (.ref x :: st) h := Ex_nx rfl rfl
theorem rL_law_268 (Q : Po) (h : Hp) (l0 l1 l2 : Value) (x : Int32) (st : List Value) : Ex mL_law Q 268 [l0, l1, l2, .int x] st h = Ex mL_law Q 269 [l0, l1, l2, .int x] (.int x :: st) h := Ex_nx rfl rfl
theorem rL_law_269 (Q : Po) (h : Hp) (ls : List Value) (st : List Value) : Ex mL_law Q 269 ls st h = Ex mL_law Q 270 ls (.int 1 :: st) h := Ex_nx rfl rfl
theorem rL_law_270 (Q : Po) (h : Hp) (ls : List Value) (st : List Value) (x y : Int32) : Ex mL_law Q 270 ls (.int y :: .int x :: st) h = Ex mL_law Q 271 ls (.int (x + y) :: st) h := Ex_nx rfl rfl
theorem rL_law_271 (Q : Po) (h : Hp) (ls : List Value) (st : List Value) (a : Nat) (i : Int32) : Ex mL_law Q 271 ls (.int i :: .ref a :: st) h = ((gK h a = 58 ∧ ¬ (i < 0 ∨ gL h a ≤ i.toNatClampNeg)) ∧ Ex mL_law Q 272 ls (.int (gI h a i.toNatClampNeg) :: st) h) := Ex_gd rfl rfl
theorem rL_law_272 (Q : Po) (h : Hp) (l1 l2 l3 : Value) (x : Nat) (st : List Value) : Ex mL_law Q 272 [.ref x, l1, l2, l3] st h = Ex mL_law Q 273 [.ref x, l1, l2, l3] (.ref x :: st) h := Ex_nx rfl rfl
theorem rL_law_273 (Q : Po) (h : Hp) (l0 l1 l2 : Value) (x : Int32) (st : List Value) : Ex mL_law Q 273 [l0, l1, l2, .int x] st h = Ex mL_law Q 274 [l0, l1, l2, .int x] (.int x :: st) h := Ex_nx rfl rfl
theorem rL_law_274 (Q : Po) (h : Hp) (ls : List Value) (st : List Value) : Ex mL_law Q 274 ls st h = Ex mL_law Q 275 ls (.int 2 :: st) h := Ex_nx rfl rfl
theorem rL_law_275 (Q : Po) (h : Hp) (ls : List Value) (st : List Value) (x y : Int32) : Ex mL_law Q 275 ls (.int y :: .int x :: st) h = Ex mL_law Q 276 ls (.int (x + y) :: st) h := Ex_nx rfl rfl
theorem rL_law_276 (Q : Po) (h : Hp) (ls : List Value) (st : List Value) (a : Nat) (i : Int32) : Ex mL_law Q 276 ls (.int i :: .ref a :: st) h = ((gK h a = 58 ∧ ¬ (i < 0 ∨ gL h a ≤ i.toNatClampNeg)) ∧ Ex mL_law Q 277 ls (.int (gI h a i.toNatClampNeg) :: st) h) := Ex_gd rfl rfl
theorem rL_law_277 (Q : Po) (h : Hp) (l1 l2 l3 : Value) (x : Nat) (st : List Value) : Ex mL_law Q 277 [.ref x, l1, l2, l3] st h = Ex mL_law Q 278 [.ref x, l1, l2, l3] (.ref x :: st) h := Ex_nx rfl rfl
theorem rL_law_278 (Q : Po) (h : Hp) (l0 l1 l2 : Value) (x : Int32) (st : List Value) : Ex mL_law Q 278 [l0, l1, l2, .int x] st h = Ex mL_law Q 279 [l0, l1, l2, .int x] (.int x :: st) h := Ex_nx rfl rfl
theorem rL_law_279 (Q : Po) (h : Hp) (ls : List Value) (st : List Value) : Ex mL_law Q 279 ls st h = Ex mL_law Q 280 ls (.int 3 :: st) h := Ex_nx rfl rfl
theorem rL_law_280 (Q : Po) (h : Hp) (ls : List Value) (st : List Value) (x y : Int32) : Ex mL_law Q 280 ls (.int y :: .int x :: st) h = Ex mL_law Q 281 ls (.int (x + y) :: st) h := Ex_nx rfl rfl
theorem rL_law_281 (Q : Po) (h : Hp) (ls : List Value) (st : List Value) (a : Nat) (i : Int32) : Ex mL_law Q 281 ls (.int i :: .ref a :: st) h = ((gK h a = 58 ∧ ¬ (i < 0 ∨ gL h a ≤ i.toNatClampNeg)) ∧ Ex mL_law Q 282 ls (.int (gI h a i.toNatClampNeg) :: st) h) := Ex_gd rfl rfl
theorem rL_law_282 (Q : Po) (h : Hp) (ls : List Value) (a0 : Int32) (a1 : Int32) (a2 : Int32) (s0 : Value) (b : Nat) : Ex mL_law Q 282 ls (.int a2 :: .int a1 :: .int a0 :: .ref b :: [s0]) h = (gK h b = 9 ∧ Ex mX9_set (Cont mL_law Q 282 ls 285 [s0]) 0 [.ref b, .int a0, .int a1, .int a2] [] h) := Ex_cg (n := 4) (as := [.ref b, .int a0, .int a1, .int a2]) rfl rfl
theorem rL_law_285 (Q : Po) (h : Hp) (ls : List Value) (st : List Value) (x y : Int32) : Ex mL_law Q 285 ls (.int y :: .int x :: st) h = if x = y then Ex mL_law Q 1514 ls st h else Ex mL_law Q 288 ls st h := Ex_br rfl rfl
theorem rL_law_288 (Q : Po) (h : Hp) (ls : List Value) (st : List Value) : Ex mL_law Q 288 ls st h = Ex mL_law Q 289 ls (.int 0 :: st) h := Ex_nx rfl rfl
theorem rL_law_289 (Q : Po) (h : Hp) (ls : List Value) (x : Int32) : Ex mL_law Q 289 ls [.int x] h = ((x = 0 ∨ x = 1) ∧ Q (.inl (some (.int x))) h) := Ex_rg rfl rfl
theorem rL_law_290 (Q : Po) (h : Hp) (l0 l2 l3 : Value) (x : Nat) (st : List Value) : Ex mL_law Q 290 [l0, .ref x, l2, l3] st h = Ex mL_law Q 291 [l0, .ref x, l2, l3] (.ref x :: st) h := Ex_nx rfl rfl
theorem rL_law_291 (Q : Po) (h : Hp) (l1 l2 l3 : Value) (x : Nat) (st : List Value) : Ex mL_law Q 291 [.ref x, l1, l2, l3] st h = Ex mL_law Q 292 [.ref x, l1, l2, l3] (.ref x :: st) h := Ex_nx rfl rfl
theorem rL_law_292 (Q : Po) (h : Hp) (l0 l1 l2 : Value) (x : Int32) (st : List Value) : Ex mL_law Q 292 [l0, l1, l2, .int x] st h = Ex mL_law Q 293 [l0, l1, l2, .int x] (.int x :: st) h := Ex_nx rfl rfl
theorem rL_law_293 (Q : Po) (h : Hp) (ls : List Value) (st : List Value) : Ex mL_law Q 293 ls st h = Ex mL_law Q 294 ls (.int 1 :: st) h := Ex_nx rfl rfl
theorem rL_law_294 (Q : Po) (h : Hp) (ls : List Value) (st : List Value) (x y : Int32) : Ex mL_law Q 294 ls (.int y :: .int x :: st) h = Ex mL_law Q 295 ls (.int (x + y) :: st) h := Ex_nx rfl rfl
theorem rL_law_295 (Q : Po) (h : Hp) (ls : List Value) (st : List Value) (a : Nat) (i : Int32) : Ex mL_law Q 295 ls (.int i :: .ref a :: st) h = ((gK h a = 58 ∧ ¬ (i < 0 ∨ gL h a ≤ i.toNatClampNeg)) ∧ Ex mL_law Q 296 ls (.int (gI h a i.toNatClampNeg) :: st) h) := Ex_gd rfl rfl
theorem rL_law_296 (Q : Po) (h : Hp) (l1 l2 l3 : Value) (x : Nat) (st : List Value) : Ex mL_law Q 296 [.ref x, l1, l2, l3] st h = Ex mL_law Q 297 [.ref x, l1, l2, l3] (.ref x :: st) h := Ex_nx rfl rfl
theorem rL_law_297 (Q : Po) (h : Hp) (l0 l1 l2 : Value) (x : Int32) (st : List Value) : Ex mL_law Q 297 [l0, l1, l2, .int x] st h = Ex mL_law Q 298 [l0, l1, l2, .int x] (.int x :: st) h := Ex_nx rfl rfl
theorem rL_law_298 (Q : Po) (h : Hp) (ls : List Value) (st : List Value) : Ex mL_law Q 298 ls st h = Ex mL_law Q 299 ls (.int 2 :: st) h := Ex_nx rfl rfl
theorem rL_law_299 (Q : Po) (h : Hp) (ls : List Value) (st : List Value) (x y : Int32) : Ex mL_law Q 299 ls (.int y :: .int x :: st) h = Ex mL_law Q 300 ls (.int (x + y) :: st) h := Ex_nx rfl rfl
theorem rL_law_300 (Q : Po) (h : Hp) (ls : List Value) (st : List Value) (a : Nat) (i : Int32) : Ex mL_law Q 300 ls (.int i :: .ref a :: st) h = ((gK h a = 58 ∧ ¬ (i < 0 ∨ gL h a ≤ i.toNatClampNeg)) ∧ Ex mL_law Q 301 ls (.int (gI h a i.toNatClampNeg) :: st) h) := Ex_gd rfl rfl
theorem rL_law_301 (Q : Po) (h : Hp) (l1 l2 l3 : Value) (x : Nat) (st : List Value) : Ex mL_law Q 301 [.ref x, l1, l2, l3] st h = Ex mL_law Q 302 [.ref x, l1, l2, l3] (.ref x :: st) h := Ex_nx rfl rfl
theorem rL_law_302 (Q : Po) (h : Hp) (l0 l1 l2 : Value) (x : Int32) (st : List Value) : Ex mL_law Q 302 [l0, l1, l2, .int x] st h = Ex mL_law Q 303 [l0, l1, l2, .int x] (.int x :: st) h := Ex_nx rfl rfl
theorem rL_law_303 (Q : Po) (h : Hp) (ls : List Value) (st : List Value) : Ex mL_law Q 303 ls st h = Ex mL_law Q 304 ls (.int 3 :: st) h := Ex_nx rfl rfl
theorem rL_law_304 (Q : Po) (h : Hp) (ls : List Value) (st : List Value) (x y : Int32) : Ex mL_law Q 304 ls (.int y :: .int x :: st) h = Ex mL_law Q 305 ls (.int (x + y) :: st) h := Ex_nx rfl rfl
theorem rL_law_305 (Q : Po) (h : Hp) (ls : List Value) (st : List Value) (a : Nat) (i : Int32) : Ex mL_law Q 305 ls (.int i :: .ref a :: st) h = ((gK h a = 58 ∧ ¬ (i < 0 ∨ gL h a ≤ i.toNatClampNeg)) ∧ Ex mL_law Q 306 ls (.int (gI h a i.toNatClampNeg) :: st) h) := Ex_gd rfl rfl
theorem rL_law_306 (Q : Po) (h : Hp) (l1 l2 l3 : Value) (x : Nat) (st : List Value) : Ex mL_law Q 306 [.ref x, l1, l2, l3] st h = Ex mL_law Q 307 [.ref x, l1, l2, l3] (.ref x :: st) h := Ex_nx rfl rfl
theorem rL_law_307 (Q : Po) (h : Hp) (l0 l1 l2 : Value) (x : Int32) (st : List Value) : Ex mL_law Q 307 [l0, l1, l2, .int x] st h = Ex mL_law Q 308 [l0, l1, l2, .int x] (.int x :: st) h := Ex_nx rfl rfl
theorem rL_law_308 (Q : Po) (h : Hp) (ls : List Value) (st : List Value) : Ex mL_law Q 308 ls st h = Ex mL_law Q 309 ls (.int 4 :: st) h := Ex_nx rfl rfl
theorem rL_law_309 (Q : Po) (h : Hp) (ls : List Value) (st : List Value) (x y : Int32) : Ex mL_law Q 309 ls (.int y :: .int x :: st) h = Ex mL_law Q 310 ls (.int (x + y) :: st) h := Ex_nx rfl rfl
theorem rL_law_310 (Q : Po) (h : Hp) (ls : List Value) (st : List Value) (a : Nat) (i : Int32) : Ex mL_law Q 310 ls (.int i :: .ref a :: st) h = ((gK h a = 58 ∧ ¬ (i < 0 ∨ gL h a ≤ i.toNatClampNeg)) ∧ Ex mL_law Q 311 ls (.int (gI h a i.toNatClampNeg) :: st) h) := Ex_gd rfl rfl
theorem rL_law_311 (Q : Po) (h : Hp) (l1 l2 l3 : Value) (x : Nat) (st : List Value) : Ex mL_law Q 311 [.ref x, l1, l2, l3] st h = Ex mL_law Q 312 [.ref x, l1, l2, l3] (.ref x :: st) h := Ex_nx rfl rfl
theorem rL_law_312 (Q : Po) (h : Hp) (l0 l1 l2 : Value) (x : Int32) (st : List Value) : Ex mL_law Q 312 [l0, l1, l2, .int x] st h = Ex mL_law Q 313 [l0, l1, l2, .int x] (.int x :: st) h := Ex_nx rfl rfl
theorem rL_law_313 (Q : Po) (h : Hp) (ls : List Value) (st : List Value) : Ex mL_law Q 313 ls st h = Ex mL_law Q 314 ls (.int 5 :: st) h := Ex_nx rfl rfl
theorem rL_law_314 (Q : Po) (h : Hp) (ls : List Value) (st : List Value) (x y : Int32) : Ex mL_law Q 314 ls (.int y :: .int x :: st) h = Ex mL_law Q 315 ls (.int (x + y) :: st) h := Ex_nx rfl rfl
theorem rL_law_315 (Q : Po) (h : Hp) (ls : List Value) (st : List Value) (a : Nat) (i : Int32) : Ex mL_law Q 315 ls (.int i :: .ref a :: st) h = ((gK h a = 58 ∧ ¬ (i < 0 ∨ gL h a ≤ i.toNatClampNeg)) ∧ Ex mL_law Q 316 ls (.int (gI h a i.toNatClampNeg) :: st) h) := Ex_gd rfl rfl
theorem rL_law_316 (Q : Po) (h : Hp) (ls : List Value) (a0 : Int32) (a1 : Int32) (a2 : Int32) (a3 : Int32) (a4 : Int32) (b : Nat) : Ex mL_law Q 316 ls (.int a4 :: .int a3 :: .int a2 :: .int a1 :: .int a0 :: .ref b :: []) h = (gK h b = 1 ∧ Ex mX0_copy (Cont mL_law Q 316 ls 319 []) 0 [.ref b, .int a0, .int a1, .int a2, .int a3, .int a4, .retAddr 0, .retAddr 0, .retAddr 0] [] h) := Ex_cg (n := 9) (as := [.ref b, .int a0, .int a1, .int a2, .int a3, .int a4]) rfl rfl
theorem rL_law_319 (Q : Po) (h : Hp) (l0 l1 l3 : Value) (x : Nat) (st : List Value) : Ex mL_law Q 319 [l0, l1, .ref x, l3] st h = Ex mL_law Q 320 [l0, l1, .ref x, l3] (.ref x :: st) h := Ex_nx rfl rfl
theorem rL_law_320 (Q : Po) (h : Hp) (l1 l2 l3 : Value) (x : Nat) (st : List Value) : Ex mL_law Q 320 [.ref x, l1, l2, l3] st h = Ex mL_law Q 321 [.ref x, l1, l2, l3] (.ref x :: st) h := Ex_nx rfl rfl
theorem rL_law_321 (Q : Po) (h : Hp) (l0 l1 l2 : Value) (x : Int32) (st : List Value) : Ex mL_law Q 321 [l0, l1, l2, .int x] st h = Ex mL_law Q 322 [l0, l1, l2, .int x] (.int x :: st) h := Ex_nx rfl rfl
theorem rL_law_322 (Q : Po) (h : Hp) (ls : List Value) (st : List Value) : Ex mL_law Q 322 ls st h = Ex mL_law Q 323 ls (.int 1 :: st) h := Ex_nx rfl rfl
theorem rL_law_323 (Q : Po) (h : Hp) (ls : List Value) (st : List Value) (x y : Int32) : Ex mL_law Q 323 ls (.int y :: .int x :: st) h = Ex mL_law Q 324 ls (.int (x + y) :: st) h := Ex_nx rfl rfl
theorem rL_law_324 (Q : Po) (h : Hp) (ls : List Value) (st : List Value) (a : Nat) (i : Int32) : Ex mL_law Q 324 ls (.int i :: .ref a :: st) h = ((gK h a = 58 ∧ ¬ (i < 0 ∨ gL h a ≤ i.toNatClampNeg)) ∧ Ex mL_law Q 325 ls (.int (gI h a i.toNatClampNeg) :: st) h) := Ex_gd rfl rfl
theorem rL_law_325 (Q : Po) (h : Hp) (l1 l2 l3 : Value) (x : Nat) (st : List Value) : Ex mL_law Q 325 [.ref x, l1, l2, l3] st h = Ex mL_law Q 326 [.ref x, l1, l2, l3] (.ref x :: st) h := Ex_nx rfl rfl
theorem rL_law_326 (Q : Po) (h : Hp) (l0 l1 l2 : Value) (x : Int32) (st : List Value) : Ex mL_law Q 326 [l0, l1, l2, .int x] st h = Ex mL_law Q 327 [l0, l1, l2, .int x] (.int x :: st) h := Ex_nx rfl rfl
theorem rL_law_327 (Q : Po) (h : Hp) (ls : List Value) (st : List Value) : Ex mL_law Q 327 ls st h = Ex mL_law Q 328 ls (.int 2 :: st) h := Ex_nx rfl rfl
theorem rL_law_328 (Q : Po) (h : Hp) (ls : List Value) (st : List Value) (x y : Int32) : Ex mL_law Q 328 ls (.int y :: .int x :: st) h = Ex mL_law Q 329 ls (.int (x + y) :: st) h := Ex_nx rfl rfl
theorem rL_law_329 (Q : Po) (h : Hp) (ls : List Value) (st : List Value) (a : Nat) (i : Int32) : Ex mL_law Q 329 ls (.int i :: .ref a :: st) h = ((gK h a = 58 ∧ ¬ (i < 0 ∨ gL h a ≤ i.toNatClampNeg)) ∧ Ex mL_law Q 330 ls (.int (gI h a i.toNatClampNeg) :: st) h) := Ex_gd rfl rfl
theorem rL_law_330 (Q : Po) (h : Hp) (l1 l2 l3 : Value) (x : Nat) (st : List Value) : Ex mL_law Q 330 [.ref x, l1, l2, l3] st h = Ex mL_law Q 331 [.ref x, l1, l2, l3] (.ref x :: st) h := Ex_nx rfl rfl
theorem rL_law_331 (Q : Po) (h : Hp) (l0 l1 l2 : Value) (x : Int32) (st : List Value) : Ex mL_law Q 331 [l0, l1, l2, .int x] st h = Ex mL_law Q 332 [l0, l1, l2, .int x] (.int x :: st) h := Ex_nx rfl rfl
theorem rL_law_332 (Q : Po) (h : Hp) (ls : List Value) (st : List Value) : Ex mL_law Q 332 ls st h = Ex mL_law Q 333 ls (.int 3 :: st) h := Ex_nx rfl rfl
theorem rL_law_333 (Q : Po) (h : Hp) (ls : List Value) (st : List Value) (x y : Int32) : Ex mL_law Q 333 ls (.int y :: .int x :: st) h = Ex mL_law Q 334 ls (.int (x + y) :: st) h := Ex_nx rfl rfl
theorem rL_law_334 (Q : Po) (h : Hp) (ls : List Value) (st : List Value) (a : Nat) (i : Int32) : Ex mL_law Q 334 ls (.int i :: .ref a :: st) h = ((gK h a = 58 ∧ ¬ (i < 0 ∨ gL h a ≤ i.toNatClampNeg)) ∧ Ex mL_law Q 335 ls (.int (gI h a i.toNatClampNeg) :: st) h) := Ex_gd rfl rfl
theorem rL_law_335 (Q : Po) (h : Hp) (l1 l2 l3 : Value) (x : Nat) (st : List Value) : Ex mL_law Q 335 [.ref x, l1, l2, l3] st h = Ex mL_law Q 336 [.ref x, l1, l2, l3] (.ref x :: st) h := Ex_nx rfl rfl
theorem rL_law_336 (Q : Po) (h : Hp) (l0 l1 l2 : Value) (x : Int32) (st : List Value) : Ex mL_law Q 336 [l0, l1, l2, .int x] st h = Ex mL_law Q 337 [l0, l1, l2, .int x] (.int x :: st) h := Ex_nx rfl rfl
theorem rL_law_337 (Q : Po) (h : Hp) (ls : List Value) (st : List Value) : Ex mL_law Q 337 ls st h = Ex mL_law Q 338 ls (.int 4 :: st) h := Ex_nx rfl rfl
theorem rL_law_338 (Q : Po) (h : Hp) (ls : List Value) (st : List Value) (x y : Int32) : Ex mL_law Q 338 ls (.int y :: .int x :: st) h = Ex mL_law Q 339 ls (.int (x + y) :: st) h := Ex_nx rfl rfl
theorem rL_law_339 (Q : Po) (h : Hp) (ls : List Value) (st : List Value) (a : Nat) (i : Int32) : Ex mL_law Q 339 ls (.int i :: .ref a :: st) h = ((gK h a = 58 ∧ ¬ (i < 0 ∨ gL h a ≤ i.toNatClampNeg)) ∧ Ex mL_law Q 340 ls (.int (gI h a i.toNatClampNeg) :: st) h) := Ex_gd rfl rfl
theorem rL_law_340 (Q : Po) (h : Hp) (l1 l2 l3 : Value) (x : Nat) (st : List Value) : Ex mL_law Q 340 [.ref x, l1, l2, l3] st h = Ex mL_law Q 341 [.ref x, l1, l2, l3] (.ref x :: st) h := Ex_nx rfl rfl
theorem rL_law_341 (Q : Po) (h : Hp) (l0 l1 l2 : Value) (x : Int32) (st : List Value) : Ex mL_law Q 341 [l0, l1, l2, .int x] st h = Ex mL_law Q 342 [l0, l1, l2, .int x] (.int x :: st) h := Ex_nx rfl rfl
theorem rL_law_342 (Q : Po) (h : Hp) (ls : List Value) (st : List Value) : Ex mL_law Q 342 ls st h = Ex mL_law Q 343 ls (.int 5 :: st) h := Ex_nx rfl rfl
theorem rL_law_343 (Q : Po) (h : Hp) (ls : List Value) (st : List Value) (x y : Int32) : Ex mL_law Q 343 ls (.int y :: .int x :: st) h = Ex mL_law Q 344 ls (.int (x + y) :: st) h := Ex_nx rfl rfl
theorem rL_law_344 (Q : Po) (h : Hp) (ls : List Value) (st : List Value) (a : Nat) (i : Int32) : Ex mL_law Q 344 ls (.int i :: .ref a :: st) h = ((gK h a = 58 ∧ ¬ (i < 0 ∨ gL h a ≤ i.toNatClampNeg)) ∧ Ex mL_law Q 345 ls (.int (gI h a i.toNatClampNeg) :: st) h) := Ex_gd rfl rfl
theorem rL_law_345 (Q : Po) (h : Hp) (ls : List Value) (a0 : Int32) (a1 : Int32) (a2 : Int32) (a3 : Int32) (a4 : Int32) (s0 : Value) (b : Nat) : Ex mL_law Q 345 ls (.int a4 :: .int a3 :: .int a2 :: .int a1 :: .int a0 :: .ref b :: [s0]) h = (gK h b = 9 ∧ Ex mX9_copy (Cont mL_law Q 345 ls 348 [s0]) 0 [.ref b, .int a0, .int a1, .int a2, .int a3, .int a4, .retAddr 0] [] h) := Ex_cg (n := 7) (as := [.ref b, .int a0, .int a1, .int a2, .int a3, .int a4]) rfl rfl
theorem rL_law_348 (Q : Po) (h : Hp) (ls : List Value) (st : List Value) (x y : Int32) : Ex mL_law Q 348 ls (.int y :: .int x :: st) h = if x = y then Ex mL_law Q 1514 ls st h else Ex mL_law Q 351 ls st h := Ex_br rfl rfl
theorem rL_law_351 (Q : Po) (h : Hp) (ls : List Value) (st : List Value) : Ex mL_law Q 351 ls st h = Ex mL_law Q 352 ls (.int 0 :: st) h := Ex_nx rfl rfl
theorem rL_law_352 (Q : Po) (h : Hp) (ls : List Value) (x : Int32) : Ex mL_law Q 352 ls [.int x] h = ((x = 0 ∨ x = 1) ∧ Q (.inl (some (.int x))) h) := Ex_rg rfl rfl
theorem rL_law_353 (Q : Po) (h : Hp) (l0 l2 l3 : Value) (x : Nat) (st : List Value) : Ex mL_law Q 353 [l0, .ref x, l2, l3] st h = Ex mL_law Q 354 [l0, .ref x, l2, l3] (.ref x :: st) h := Ex_nx rfl rfl
theorem rL_law_354 (Q : Po) (h : Hp) (l1 l2 l3 : Value) (x : Nat) (st : List Value) : Ex mL_law Q 354 [.ref x, l1, l2, l3] st h = Ex mL_law Q 355 [.ref x, l1, l2, l3] (.ref x :: st) h := Ex_nx rfl rfl
theorem rL_law_355 (Q : Po) (h : Hp) (l0 l1 l2 : Value) (x : Int32) (st : List Value) : Ex mL_law Q 355 [l0, l1, l2, .int x] st h = Ex mL_law Q 356 [l0, l1, l2, .int x] (.int x :: st) h := Ex_nx rfl rfl
theorem rL_law_356 (Q : Po) (h : Hp) (ls : List Value) (st : List Value) : Ex mL_law Q 356 ls st h = Ex mL_law Q 357 ls (.int 1 :: st) h := Ex_nx rfl rfl
theorem rL_law_357 (Q : Po) (h : Hp) (ls : List Value) (st : List Value) (x y : Int32) : Ex mL_law Q 357 ls (.int y :: .int x :: st) h = Ex mL_law Q 358 ls (.int (x + y) :: st) h := Ex_nx rfl rfl
theorem rL_law_358 (Q : Po) (h : Hp) (ls : List Value) (st : List Value) (a : Nat) (i : Int32) : Ex mL_law Q 358 ls (.int i :: .ref a :: st) h = ((gK h a = 58 ∧ ¬ (i < 0 ∨ gL h a ≤ i.toNatClampNeg)) ∧ Ex mL_law Q 359 ls (.int (gI h a i.toNatClampNeg) :: st) h) := Ex_gd rfl rfl
theorem rL_law_359 (Q : Po) (h : Hp) (ls : List Value) (a0 : Int32) (b : Nat) : Ex mL_law Q 359 ls (.int a0 :: .ref b :: []) h = (gK h b = 1 ∧ Ex mX0_drop (Cont mL_law Q 359 ls 362 []) 0 [.ref b, .int a0, .retAddr 0] [] h) := Ex_cg (n := 3) (as := [.ref b, .int a0]) rfl rfl
theorem rL_law_362 (Q : Po) (h : Hp) (l0 l1 l3 : Value) (x : Nat) (st : List Value) : Ex mL_law Q 362 [l0, l1, .ref x, l3] st h = Ex mL_law Q 363 [l0, l1, .ref x, l3] (.ref x :: st) h := Ex_nx rfl rfl
theorem rL_law_363 (Q : Po) (h : Hp) (l1 l2 l3 : Value) (x : Nat) (st : List Value) : Ex mL_law Q 363 [.ref x, l1, l2, l3] st h = Ex mL_law Q 364 [.ref x, l1, l2, l3] (.ref x :: st) h := Ex_nx rfl rfl
theorem rL_law_364 (Q : Po) (h : Hp) (l0 l1 l2 : Value) (x : Int32) (st : List Value) : Ex mL_law Q 364 [l0, l1, l2, .int x] st h = Ex mL_law Q 365 [l0, l1, l2, .int x] (.int x :: st) h := Ex_nx rfl rfl
theorem rL_law_365 (Q : Po) (h : Hp) (ls : List Value) (st : List Value) : Ex mL_law Q 365 ls st h = Ex mL_law Q 366 ls (.int 1 :: st) h := Ex_nx rfl rfl
theorem rL_law_366 (Q : Po) (h : Hp) (ls : List Value) (st : List Value) (x y : Int32) : Ex mL_law Q 366 ls (.int y :: .int x :: st) h = Ex mL_law Q 367 ls (.int (x + y) :: st) h := Ex_nx rfl rfl
theorem rL_law_367 (Q : Po) (h : Hp) (ls : List Value) (st : List Value) (a : Nat) (i : Int32) : Ex mL_law Q 367 ls (.int i :: .ref a :: st) h = ((gK h a = 58 ∧ ¬ (i < 0 ∨ gL h a ≤ i.toNatClampNeg)) ∧ Ex mL_law Q 368 ls (.int (gI h a i.toNatClampNeg) :: st) h) := Ex_gd rfl rfl
theorem rL_law_368 (Q : Po) (h : Hp) (ls : List Value) (a0 : Int32) (s0 : Value) (b : Nat) : Ex mL_law Q 368 ls (.int a0 :: .ref b :: [s0]) h = (gK h b = 9 ∧ Ex mX9_drop (Cont mL_law Q 368 ls 371 [s0]) 0 [.ref b, .int a0, .retAddr 0] [] h) := Ex_cg (n := 3) (as := [.ref b, .int a0]) rfl rfl
theorem rL_law_371 (Q : Po) (h : Hp) (ls : List Value) (st : List Value) (x y : Int32) : Ex mL_law Q 371 ls (.int y :: .int x :: st) h = if x = y then Ex mL_law Q 1514 ls st h else Ex mL_law Q 374 ls st h := Ex_br rfl rfl
theorem rL_law_374 (Q : Po) (h : Hp) (ls : List Value) (st : List Value) : Ex mL_law Q 374 ls st h = Ex mL_law Q 375 ls (.int 0 :: st) h := Ex_nx rfl rfl
theorem rL_law_375 (Q : Po) (h : Hp) (ls : List Value) (x : Int32) : Ex mL_law Q 375 ls [.int x] h = ((x = 0 ∨ x = 1) ∧ Q (.inl (some (.int x))) h) := Ex_rg rfl rfl
theorem rL_law_376 (Q : Po) (h : Hp) (l0 l2 l3 : Value) (x : Nat) (st : List Value) : Ex mL_law Q 376 [l0, .ref x, l2, l3] st h = Ex mL_law Q 377 [l0, .ref x, l2, l3] (.ref x :: st) h := Ex_nx rfl rfl
theorem rL_law_377 (Q : Po) (h : Hp) (l1 l2 l3 : Value) (x : Nat) (st : List Value) : Ex mL_law Q 377 [.ref x, l1, l2, l3] st h = Ex mL_law Q 378 [.ref x, l1, l2, l3] (.ref x :: st) h := Ex_nx rfl rfl
theorem rL_law_378 (Q : Po) (h : Hp) (l0 l1 l2 : Value) (x : Int32) (st : List Value) : Ex mL_law Q 378 [l0, l1, l2, .int x] st h = Ex mL_law Q 379 [l0, l1, l2, .int x] (.int x :: st) h := Ex_nx rfl rfl
theorem rL_law_379 (Q : Po) (h : Hp) (ls : List Value) (st : List Value) : Ex mL_law Q 379 ls st h = Ex mL_law Q 380 ls (.int 1 :: st) h := Ex_nx rfl rfl
theorem rL_law_380 (Q : Po) (h : Hp) (ls : List Value) (st : List Value) (x y : Int32) : Ex mL_law Q 380 ls (.int y :: .int x :: st) h = Ex mL_law Q 381 ls (.int (x + y) :: st) h := Ex_nx rfl rfl
theorem rL_law_381 (Q : Po) (h : Hp) (ls : List Value) (st : List Value) (a : Nat) (i : Int32) : Ex mL_law Q 381 ls (.int i :: .ref a :: st) h = ((gK h a = 58 ∧ ¬ (i < 0 ∨ gL h a ≤ i.toNatClampNeg)) ∧ Ex mL_law Q 382 ls (.int (gI h a i.toNatClampNeg) :: st) h) := Ex_gd rfl rfl
theorem rL_law_382 (Q : Po) (h : Hp) (ls : List Value) (a0 : Int32) (b : Nat) : Ex mL_law Q 382 ls (.int a0 :: .ref b :: []) h = (gK h b = 1 ∧ Ex mX0_feed (Cont mL_law Q 382 ls 385 []) 0 [.ref b, .int a0] [] h) := Ex_cg (n := 2) (as := [.ref b, .int a0]) rfl rfl
theorem rL_law_385 (Q : Po) (h : Hp) (l0 l1 l3 : Value) (x : Nat) (st : List Value) : Ex mL_law Q 385 [l0, l1, .ref x, l3] st h = Ex mL_law Q 386 [l0, l1, .ref x, l3] (.ref x :: st) h := Ex_nx rfl rfl
theorem rL_law_386 (Q : Po) (h : Hp) (l1 l2 l3 : Value) (x : Nat) (st : List Value) : Ex mL_law Q 386 [.ref x, l1, l2, l3] st h = Ex mL_law Q 387 [.ref x, l1, l2, l3] (.ref x :: st) h := Ex_nx rfl rfl
theorem rL_law_387 (Q : Po) (h : Hp) (l0 l1 l2 : Value) (x : Int32) (st : List Value) : Ex mL_law Q 387 [l0, l1, l2, .int x] st h = Ex mL_law Q 388 [l0, l1, l2, .int x] (.int x :: st) h := Ex_nx rfl rfl
theorem rL_law_388 (Q : Po) (h : Hp) (ls : List Value) (st : List Value) : Ex mL_law Q 388 ls st h = Ex mL_law Q 389 ls (.int 1 :: st) h := Ex_nx rfl rfl
theorem rL_law_389 (Q : Po) (h : Hp) (ls : List Value) (st : List Value) (x y : Int32) : Ex mL_law Q 389 ls (.int y :: .int x :: st) h = Ex mL_law Q 390 ls (.int (x + y) :: st) h := Ex_nx rfl rfl
theorem rL_law_390 (Q : Po) (h : Hp) (ls : List Value) (st : List Value) (a : Nat) (i : Int32) : Ex mL_law Q 390 ls (.int i :: .ref a :: st) h = ((gK h a = 58 ∧ ¬ (i < 0 ∨ gL h a ≤ i.toNatClampNeg)) ∧ Ex mL_law Q 391 ls (.int (gI h a i.toNatClampNeg) :: st) h) := Ex_gd rfl rfl
theorem rL_law_391 (Q : Po) (h : Hp) (ls : List Value) (a0 : Int32) (s0 : Value) (b : Nat) : Ex mL_law Q 391 ls (.int a0 :: .ref b :: [s0]) h = (gK h b = 9 ∧ Ex mX9_feed (Cont mL_law Q 391 ls 394 [s0]) 0 [.ref b, .int a0] [] h) := Ex_cg (n := 2) (as := [.ref b, .int a0]) rfl rfl
theorem rL_law_394 (Q : Po) (h : Hp) (ls : List Value) (st : List Value) (x y : Int32) : Ex mL_law Q 394 ls (.int y :: .int x :: st) h = if x = y then Ex mL_law Q 1514 ls st h else Ex mL_law Q 397 ls st h := Ex_br rfl rfl
theorem rL_law_397 (Q : Po) (h : Hp) (ls : List Value) (st : List Value) : Ex mL_law Q 397 ls st h = Ex mL_law Q 398 ls (.int 0 :: st) h := Ex_nx rfl rfl
theorem rL_law_398 (Q : Po) (h : Hp) (ls : List Value) (x : Int32) : Ex mL_law Q 398 ls [.int x] h = ((x = 0 ∨ x = 1) ∧ Q (.inl (some (.int x))) h) := Ex_rg rfl rfl
theorem rL_law_399 (Q : Po) (h : Hp) (l0 l2 l3 : Value) (x : Nat) (st : List Value) : Ex mL_law Q 399 [l0, .ref x, l2, l3] st h = Ex mL_law Q 400 [l0, .ref x, l2, l3] (.ref x :: st) h := Ex_nx rfl rfl
theorem rL_law_400 (Q : Po) (h : Hp) (ls : List Value) (b : Nat) : Ex mL_law Q 400 ls (.ref b :: []) h = (gK h b = 1 ∧ Ex mX0_library (Cont mL_law Q 400 ls 403 []) 0 [.ref b, .retAddr 0, .retAddr 0] [] h) := Ex_cg (n := 3) (as := [.ref b]) rfl rfl
theorem rL_law_403 (Q : Po) (h : Hp) (l0 l1 l3 : Value) (x : Nat) (st : List Value) : Ex mL_law Q 403 [l0, l1, .ref x, l3] st h = Ex mL_law Q 404 [l0, l1, .ref x, l3] (.ref x :: st) h := Ex_nx rfl rfl
theorem rL_law_404 (Q : Po) (h : Hp) (ls : List Value) (s0 : Value) (b : Nat) : Ex mL_law Q 404 ls (.ref b :: [s0]) h = (gK h b = 9 ∧ Ex mX9_library (Cont mL_law Q 404 ls 407 [s0]) 0 [.ref b, .retAddr 0, .retAddr 0] [] h) := Ex_cg (n := 3) (as := [.ref b]) rfl rfl
theorem rL_law_407 (Q : Po) (h : Hp) (ls : List Value) (st : List Value) (x y : Int32) : Ex mL_law Q 407 ls (.int y :: .int x :: st) h = if x = y then Ex mL_law Q 1514 ls st h else Ex mL_law Q 410 ls st h := Ex_br rfl rfl
theorem rL_law_410 (Q : Po) (h : Hp) (ls : List Value) (st : List Value) : Ex mL_law Q 410 ls st h = Ex mL_law Q 411 ls (.int 0 :: st) h := Ex_nx rfl rfl
theorem rL_law_411 (Q : Po) (h : Hp) (ls : List Value) (x : Int32) : Ex mL_law Q 411 ls [.int x] h = ((x = 0 ∨ x = 1) ∧ Q (.inl (some (.int x))) h) := Ex_rg rfl rfl
theorem rL_law_412 (Q : Po) (h : Hp) (l0 l2 l3 : Value) (x : Nat) (st : List Value) : Ex mL_law Q 412 [l0, .ref x, l2, l3] st h = Ex mL_law Q 413 [l0, .ref x, l2, l3] (.ref x :: st) h := Ex_nx rfl rfl
theorem rL_law_413 (Q : Po) (h : Hp) (ls : List Value) (b : Nat) : Ex mL_law Q 413 ls (.ref b :: []) h = (gK h b = 1 ∧ Ex mX0_fault (Cont mL_law Q 413 ls 416 []) 0 [.ref b] [] h) := Ex_cg (n := 1) (as := [.ref b]) rfl rfl
theorem rL_law_416 (Q : Po) (h : Hp) (l0 l1 l3 : Value) (x : Nat) (st : List Value) : Ex mL_law Q 416 [l0, l1, .ref x, l3] st h = Ex mL_law Q 417 [l0, l1, .ref x, l3] (.ref x :: st) h := Ex_nx rfl rfl
theorem rL_law_417 (Q : Po) (h : Hp) (ls : List Value) (s0 : Value) (b : Nat) : Ex mL_law Q 417 ls (.ref b :: [s0]) h = (gK h b = 9 ∧ Ex mX9_fault (Cont mL_law Q 417 ls 420 [s0]) 0 [.ref b] [] h) := Ex_cg (n := 1) (as := [.ref b]) rfl rfl
theorem rL_law_420 (Q : Po) (h : Hp) (ls : List Value) (st : List Value) (x y : Int32) : Ex mL_law Q 420 ls (.int y :: .int x :: st) h = if x = y then Ex mL_law Q 1514 ls st h else Ex mL_law Q 423 ls st h := Ex_br rfl rfl
theorem rL_law_423 (Q : Po) (h : Hp) (ls : List Value) (st : List Value) : Ex mL_law Q 423 ls st h = Ex mL_law Q 424 ls (.int 0 :: st) h := Ex_nx rfl rfl
theorem rL_law_424 (Q : Po) (h : Hp) (ls : List Value) (x : Int32) : Ex mL_law Q 424 ls [.int x] h = ((x = 0 ∨ x = 1) ∧ Q (.inl (some (.int x))) h) := Ex_rg rfl rfl
theorem rL_law_425 (Q : Po) (h : Hp) (l0 l2 l3 : Value) (x : Nat) (st : List Value) : Ex mL_law Q 425 [l0, .ref x, l2, l3] st h = Ex mL_law Q 426 [l0, .ref x, l2, l3] (.ref x :: st) h := Ex_nx rfl rfl
theorem rL_law_426 (Q : Po) (h : Hp) (ls : List Value) (b : Nat) : Ex mL_law Q 426 ls (.ref b :: []) h = (gK h b = 1 ∧ Ex mX0_undo (Cont mL_law Q 426 ls 429 []) 0 [.ref b] [] h) := Ex_cg (n := 1) (as := [.ref b]) rfl rfl
theorem rL_law_429 (Q : Po) (h : Hp) (l0 l1 l3 : Value) (x : Nat) (st : List Value) : Ex mL_law Q 429 [l0, l1, .ref x, l3] st h = Ex mL_law Q 430 [l0, l1, .ref x, l3] (.ref x :: st) h := Ex_nx rfl rfl
theorem rL_law_430 (Q : Po) (h : Hp) (ls : List Value) (s0 : Value) (b : Nat) : Ex mL_law Q 430 ls (.ref b :: [s0]) h = (gK h b = 9 ∧ Ex mX9_undo (Cont mL_law Q 430 ls 433 [s0]) 0 [.ref b, .retAddr 0] [] h) := Ex_cg (n := 2) (as := [.ref b]) rfl rfl
theorem rL_law_433 (Q : Po) (h : Hp) (ls : List Value) (st : List Value) (x y : Int32) : Ex mL_law Q 433 ls (.int y :: .int x :: st) h = if x = y then Ex mL_law Q 1514 ls st h else Ex mL_law Q 436 ls st h := Ex_br rfl rfl
theorem rL_law_436 (Q : Po) (h : Hp) (ls : List Value) (st : List Value) : Ex mL_law Q 436 ls st h = Ex mL_law Q 437 ls (.int 0 :: st) h := Ex_nx rfl rfl
theorem rL_law_437 (Q : Po) (h : Hp) (ls : List Value) (x : Int32) : Ex mL_law Q 437 ls [.int x] h = ((x = 0 ∨ x = 1) ∧ Q (.inl (some (.int x))) h) := Ex_rg rfl rfl
theorem rL_law_438 (Q : Po) (h : Hp) (l0 l2 l3 : Value) (x : Nat) (st : List Value) : Ex mL_law Q 438 [l0, .ref x, l2, l3] st h = Ex mL_law Q 439 [l0, .ref x, l2, l3] (.ref x :: st) h := Ex_nx rfl rfl
theorem rL_law_439 (Q : Po) (h : Hp) (l1 l2 l3 : Value) (x : Nat) (st : List Value) : Ex mL_law Q 439 [.ref x, l1, l2, l3] st h = Ex mL_law Q 440 [.ref x, l1, l2, l3] (.ref x :: st) h := Ex_nx rfl rfl
theorem rL_law_440 (Q : Po) (h : Hp) (l0 l1 l2 : Value) (x : Int32) (st : List Value) : Ex mL_law Q 440 [l0, l1, l2, .int x] st h = Ex mL_law Q 441 [l0, l1, l2, .int x] (.int x :: st) h := Ex_nx rfl rfl
theorem rL_law_441 (Q : Po) (h : Hp) (ls : List Value) (st : List Value) : Ex mL_law Q 441 ls st h = Ex mL_law Q 442 ls (.int 1 :: st) h := Ex_nx rfl rfl
theorem rL_law_442 (Q : Po) (h : Hp) (ls : List Value) (st : List Value) (x y : Int32) : Ex mL_law Q 442 ls (.int y :: .int x :: st) h = Ex mL_law Q 443 ls (.int (x + y) :: st) h := Ex_nx rfl rfl
theorem rL_law_443 (Q : Po) (h : Hp) (ls : List Value) (st : List Value) (a : Nat) (i : Int32) : Ex mL_law Q 443 ls (.int i :: .ref a :: st) h = ((gK h a = 58 ∧ ¬ (i < 0 ∨ gL h a ≤ i.toNatClampNeg)) ∧ Ex mL_law Q 444 ls (.int (gI h a i.toNatClampNeg) :: st) h) := Ex_gd rfl rfl
theorem rL_law_444 (Q : Po) (h : Hp) (ls : List Value) (a0 : Int32) (b : Nat) : Ex mL_law Q 444 ls (.int a0 :: .ref b :: []) h = (gK h b = 1 ∧ Ex mX0_nights (Cont mL_law Q 444 ls 447 []) 0 [.ref b, .int a0, .retAddr 0] [] h) := Ex_cg (n := 3) (as := [.ref b, .int a0]) rfl rfl
theorem rL_law_447 (Q : Po) (h : Hp) (l0 l1 l3 : Value) (x : Nat) (st : List Value) : Ex mL_law Q 447 [l0, l1, .ref x, l3] st h = Ex mL_law Q 448 [l0, l1, .ref x, l3] (.ref x :: st) h := Ex_nx rfl rfl
theorem rL_law_448 (Q : Po) (h : Hp) (l1 l2 l3 : Value) (x : Nat) (st : List Value) : Ex mL_law Q 448 [.ref x, l1, l2, l3] st h = Ex mL_law Q 449 [.ref x, l1, l2, l3] (.ref x :: st) h := Ex_nx rfl rfl
theorem rL_law_449 (Q : Po) (h : Hp) (l0 l1 l2 : Value) (x : Int32) (st : List Value) : Ex mL_law Q 449 [l0, l1, l2, .int x] st h = Ex mL_law Q 450 [l0, l1, l2, .int x] (.int x :: st) h := Ex_nx rfl rfl
theorem rL_law_450 (Q : Po) (h : Hp) (ls : List Value) (st : List Value) : Ex mL_law Q 450 ls st h = Ex mL_law Q 451 ls (.int 1 :: st) h := Ex_nx rfl rfl
theorem rL_law_451 (Q : Po) (h : Hp) (ls : List Value) (st : List Value) (x y : Int32) : Ex mL_law Q 451 ls (.int y :: .int x :: st) h = Ex mL_law Q 452 ls (.int (x + y) :: st) h := Ex_nx rfl rfl
theorem rL_law_452 (Q : Po) (h : Hp) (ls : List Value) (st : List Value) (a : Nat) (i : Int32) : Ex mL_law Q 452 ls (.int i :: .ref a :: st) h = ((gK h a = 58 ∧ ¬ (i < 0 ∨ gL h a ≤ i.toNatClampNeg)) ∧ Ex mL_law Q 453 ls (.int (gI h a i.toNatClampNeg) :: st) h) := Ex_gd rfl rfl
theorem rL_law_453 (Q : Po) (h : Hp) (ls : List Value) (a0 : Int32) (s0 : Value) (b : Nat) : Ex mL_law Q 453 ls (.int a0 :: .ref b :: [s0]) h = (gK h b = 9 ∧ Ex mX9_nights (Cont mL_law Q 453 ls 456 [s0]) 0 [.ref b, .int a0, .retAddr 0] [] h) := Ex_cg (n := 3) (as := [.ref b, .int a0]) rfl rfl
theorem rL_law_456 (Q : Po) (h : Hp) (ls : List Value) (st : List Value) (x y : Int32) : Ex mL_law Q 456 ls (.int y :: .int x :: st) h = if x = y then Ex mL_law Q 1514 ls st h else Ex mL_law Q 459 ls st h := Ex_br rfl rfl
theorem rL_law_459 (Q : Po) (h : Hp) (ls : List Value) (st : List Value) : Ex mL_law Q 459 ls st h = Ex mL_law Q 460 ls (.int 0 :: st) h := Ex_nx rfl rfl
theorem rL_law_460 (Q : Po) (h : Hp) (ls : List Value) (x : Int32) : Ex mL_law Q 460 ls [.int x] h = ((x = 0 ∨ x = 1) ∧ Q (.inl (some (.int x))) h) := Ex_rg rfl rfl
theorem rL_law_461 (Q : Po) (h : Hp) (l0 l2 l3 : Value) (x : Nat) (st : List Value) : Ex mL_law Q 461 [l0, .ref x, l2, l3] st h = Ex mL_law Q 462 [l0, .ref x, l2, l3] (.ref x :: st) h := Ex_nx rfl rfl
theorem rL_law_462 (Q : Po) (h : Hp) (l1 l2 l3 : Value) (x : Nat) (st : List Value) : Ex mL_law Q 462 [.ref x, l1, l2, l3] st h = Ex mL_law Q 463 [.ref x, l1, l2, l3] (.ref x :: st) h := Ex_nx rfl rfl
theorem rL_law_463 (Q : Po) (h : Hp) (l0 l1 l2 : Value) (x : Int32) (st : List Value) : Ex mL_law Q 463 [l0, l1, l2, .int x] st h = Ex mL_law Q 464 [l0, l1, l2, .int x] (.int x :: st) h := Ex_nx rfl rfl
theorem rL_law_464 (Q : Po) (h : Hp) (ls : List Value) (st : List Value) : Ex mL_law Q 464 ls st h = Ex mL_law Q 465 ls (.int 1 :: st) h := Ex_nx rfl rfl
theorem rL_law_465 (Q : Po) (h : Hp) (ls : List Value) (st : List Value) (x y : Int32) : Ex mL_law Q 465 ls (.int y :: .int x :: st) h = Ex mL_law Q 466 ls (.int (x + y) :: st) h := Ex_nx rfl rfl
theorem rL_law_466 (Q : Po) (h : Hp) (ls : List Value) (st : List Value) (a : Nat) (i : Int32) : Ex mL_law Q 466 ls (.int i :: .ref a :: st) h = ((gK h a = 58 ∧ ¬ (i < 0 ∨ gL h a ≤ i.toNatClampNeg)) ∧ Ex mL_law Q 467 ls (.int (gI h a i.toNatClampNeg) :: st) h) := Ex_gd rfl rfl
theorem rL_law_467 (Q : Po) (h : Hp) (l1 l2 l3 : Value) (x : Nat) (st : List Value) : Ex mL_law Q 467 [.ref x, l1, l2, l3] st h = Ex mL_law Q 468 [.ref x, l1, l2, l3] (.ref x :: st) h := Ex_nx rfl rfl
theorem rL_law_468 (Q : Po) (h : Hp) (l0 l1 l2 : Value) (x : Int32) (st : List Value) : Ex mL_law Q 468 [l0, l1, l2, .int x] st h = Ex mL_law Q 469 [l0, l1, l2, .int x] (.int x :: st) h := Ex_nx rfl rfl
theorem rL_law_469 (Q : Po) (h : Hp) (ls : List Value) (st : List Value) : Ex mL_law Q 469 ls st h = Ex mL_law Q 470 ls (.int 2 :: st) h := Ex_nx rfl rfl
theorem rL_law_470 (Q : Po) (h : Hp) (ls : List Value) (st : List Value) (x y : Int32) : Ex mL_law Q 470 ls (.int y :: .int x :: st) h = Ex mL_law Q 471 ls (.int (x + y) :: st) h := Ex_nx rfl rfl
theorem rL_law_471 (Q : Po) (h : Hp) (ls : List Value) (st : List Value) (a : Nat) (i : Int32) : Ex mL_law Q 471 ls (.int i :: .ref a :: st) h = ((gK h a = 58 ∧ ¬ (i < 0 ∨ gL h a ≤ i.toNatClampNeg)) ∧ Ex mL_law Q 472 ls (.int (gI h a i.toNatClampNeg) :: st) h) := Ex_gd rfl rfl
theorem rL_law_472 (Q : Po) (h : Hp) (ls : List Value) (a0 : Int32) (a1 : Int32) (b : Nat) : Ex mL_law Q 472 ls (.int a1 :: .int a0 :: .ref b :: []) h = (gK h b = 1 ∧ Ex mX0_light (Cont mL_law Q 472 ls 475 []) 0 [.ref b, .int a0, .int a1] [] h) := Ex_cg (n := 3) (as := [.ref b, .int a0, .int a1]) rfl rfl
theorem rL_law_475 (Q : Po) (h : Hp) (l0 l1 l3 : Value) (x : Nat) (st : List Value) : Ex mL_law Q 475 [l0, l1, .ref x, l3] st h = Ex mL_law Q 476 [l0, l1, .ref x, l3] (.ref x :: st) h := Ex_nx rfl rfl
theorem rL_law_476 (Q : Po) (h : Hp) (l1 l2 l3 : Value) (x : Nat) (st : List Value) : Ex mL_law Q 476 [.ref x, l1, l2, l3] st h = Ex mL_law Q 477 [.ref x, l1, l2, l3] (.ref x :: st) h := Ex_nx rfl rfl
theorem rL_law_477 (Q : Po) (h : Hp) (l0 l1 l2 : Value) (x : Int32) (st : List Value) : Ex mL_law Q 477 [l0, l1, l2, .int x] st h = Ex mL_law Q 478 [l0, l1, l2, .int x] (.int x :: st) h := Ex_nx rfl rfl
theorem rL_law_478 (Q : Po) (h : Hp) (ls : List Value) (st : List Value) : Ex mL_law Q 478 ls st h = Ex mL_law Q 479 ls (.int 1 :: st) h := Ex_nx rfl rfl
theorem rL_law_479 (Q : Po) (h : Hp) (ls : List Value) (st : List Value) (x y : Int32) : Ex mL_law Q 479 ls (.int y :: .int x :: st) h = Ex mL_law Q 480 ls (.int (x + y) :: st) h := Ex_nx rfl rfl
theorem rL_law_480 (Q : Po) (h : Hp) (ls : List Value) (st : List Value) (a : Nat) (i : Int32) : Ex mL_law Q 480 ls (.int i :: .ref a :: st) h = ((gK h a = 58 ∧ ¬ (i < 0 ∨ gL h a ≤ i.toNatClampNeg)) ∧ Ex mL_law Q 481 ls (.int (gI h a i.toNatClampNeg) :: st) h) := Ex_gd rfl rfl
theorem rL_law_481 (Q : Po) (h : Hp) (l1 l2 l3 : Value) (x : Nat) (st : List Value) : Ex mL_law Q 481 [.ref x, l1, l2, l3] st h = Ex mL_law Q 482 [.ref x, l1, l2, l3] (.ref x :: st) h := Ex_nx rfl rfl
theorem rL_law_482 (Q : Po) (h : Hp) (l0 l1 l2 : Value) (x : Int32) (st : List Value) : Ex mL_law Q 482 [l0, l1, l2, .int x] st h = Ex mL_law Q 483 [l0, l1, l2, .int x] (.int x :: st) h := Ex_nx rfl rfl
theorem rL_law_483 (Q : Po) (h : Hp) (ls : List Value) (st : List Value) : Ex mL_law Q 483 ls st h = Ex mL_law Q 484 ls (.int 2 :: st) h := Ex_nx rfl rfl
theorem rL_law_484 (Q : Po) (h : Hp) (ls : List Value) (st : List Value) (x y : Int32) : Ex mL_law Q 484 ls (.int y :: .int x :: st) h = Ex mL_law Q 485 ls (.int (x + y) :: st) h := Ex_nx rfl rfl
theorem rL_law_485 (Q : Po) (h : Hp) (ls : List Value) (st : List Value) (a : Nat) (i : Int32) : Ex mL_law Q 485 ls (.int i :: .ref a :: st) h = ((gK h a = 58 ∧ ¬ (i < 0 ∨ gL h a ≤ i.toNatClampNeg)) ∧ Ex mL_law Q 486 ls (.int (gI h a i.toNatClampNeg) :: st) h) := Ex_gd rfl rfl
theorem rL_law_486 (Q : Po) (h : Hp) (ls : List Value) (a0 : Int32) (a1 : Int32) (s0 : Value) (b : Nat) : Ex mL_law Q 486 ls (.int a1 :: .int a0 :: .ref b :: [s0]) h = (gK h b = 9 ∧ Ex mX9_light (Cont mL_law Q 486 ls 489 [s0]) 0 [.ref b, .int a0, .int a1] [] h) := Ex_cg (n := 3) (as := [.ref b, .int a0, .int a1]) rfl rfl
theorem rL_law_489 (Q : Po) (h : Hp) (ls : List Value) (st : List Value) (x y : Int32) : Ex mL_law Q 489 ls (.int y :: .int x :: st) h = if x = y then Ex mL_law Q 1514 ls st h else Ex mL_law Q 492 ls st h := Ex_br rfl rfl
theorem rL_law_492 (Q : Po) (h : Hp) (ls : List Value) (st : List Value) : Ex mL_law Q 492 ls st h = Ex mL_law Q 493 ls (.int 0 :: st) h := Ex_nx rfl rfl
theorem rL_law_493 (Q : Po) (h : Hp) (ls : List Value) (x : Int32) : Ex mL_law Q 493 ls [.int x] h = ((x = 0 ∨ x = 1) ∧ Q (.inl (some (.int x))) h) := Ex_rg rfl rfl
theorem rL_law_494 (Q : Po) (h : Hp) (l0 l2 l3 : Value) (x : Nat) (st : List Value) : Ex mL_law Q 494 [l0, .ref x, l2, l3] st h = Ex mL_law Q 495 [l0, .ref x, l2, l3] (.ref x :: st) h := Ex_nx rfl rfl
theorem rL_law_495 (Q : Po) (h : Hp) (l1 l2 l3 : Value) (x : Nat) (st : List Value) : Ex mL_law Q 495 [.ref x, l1, l2, l3] st h = Ex mL_law Q 496 [.ref x, l1, l2, l3] (.ref x :: st) h := Ex_nx rfl rfl
theorem rL_law_496 (Q : Po) (h : Hp) (l0 l1 l2 : Value) (x : Int32) (st : List Value) : Ex mL_law Q 496 [l0, l1, l2, .int x] st h = Ex mL_law Q 497 [l0, l1, l2, .int x] (.int x :: st) h := Ex_nx rfl rfl
theorem rL_law_497 (Q : Po) (h : Hp) (ls : List Value) (st : List Value) : Ex mL_law Q 497 ls st h = Ex mL_law Q 498 ls (.int 1 :: st) h := Ex_nx rfl rfl
theorem rL_law_498 (Q : Po) (h : Hp) (ls : List Value) (st : List Value) (x y : Int32) : Ex mL_law Q 498 ls (.int y :: .int x :: st) h = Ex mL_law Q 499 ls (.int (x + y) :: st) h := Ex_nx rfl rfl
theorem rL_law_499 (Q : Po) (h : Hp) (ls : List Value) (st : List Value) (a : Nat) (i : Int32) : Ex mL_law Q 499 ls (.int i :: .ref a :: st) h = ((gK h a = 58 ∧ ¬ (i < 0 ∨ gL h a ≤ i.toNatClampNeg)) ∧ Ex mL_law Q 500 ls (.int (gI h a i.toNatClampNeg) :: st) h) := Ex_gd rfl rfl
theorem rL_law_500 (Q : Po) (h : Hp) (l1 l2 l3 : Value) (x : Nat) (st : List Value) : Ex mL_law Q 500 [.ref x, l1, l2, l3] st h = Ex mL_law Q 501 [.ref x, l1, l2, l3] (.ref x :: st) h := Ex_nx rfl rfl
theorem rL_law_501 (Q : Po) (h : Hp) (l0 l1 l2 : Value) (x : Int32) (st : List Value) : Ex mL_law Q 501 [l0, l1, l2, .int x] st h = Ex mL_law Q 502 [l0, l1, l2, .int x] (.int x :: st) h := Ex_nx rfl rfl
theorem rL_law_502 (Q : Po) (h : Hp) (ls : List Value) (st : List Value) : Ex mL_law Q 502 ls st h = Ex mL_law Q 503 ls (.int 2 :: st) h := Ex_nx rfl rfl
theorem rL_law_503 (Q : Po) (h : Hp) (ls : List Value) (st : List Value) (x y : Int32) : Ex mL_law Q 503 ls (.int y :: .int x :: st) h = Ex mL_law Q 504 ls (.int (x + y) :: st) h := Ex_nx rfl rfl
theorem rL_law_504 (Q : Po) (h : Hp) (ls : List Value) (st : List Value) (a : Nat) (i : Int32) : Ex mL_law Q 504 ls (.int i :: .ref a :: st) h = ((gK h a = 58 ∧ ¬ (i < 0 ∨ gL h a ≤ i.toNatClampNeg)) ∧ Ex mL_law Q 505 ls (.int (gI h a i.toNatClampNeg) :: st) h) := Ex_gd rfl rfl
theorem rL_law_505 (Q : Po) (h : Hp) (ls : List Value) (a0 : Int32) (a1 : Int32) (b : Nat) : Ex mL_law Q 505 ls (.int a1 :: .int a0 :: .ref b :: []) h = (gK h b = 1 ∧ Ex mX0_keepIt (Cont mL_law Q 505 ls 508 []) 0 [.ref b, .int a0, .int a1] [] h) := Ex_cg (n := 3) (as := [.ref b, .int a0, .int a1]) rfl rfl
theorem rL_law_508 (Q : Po) (h : Hp) (l0 l1 l3 : Value) (x : Nat) (st : List Value) : Ex mL_law Q 508 [l0, l1, .ref x, l3] st h = Ex mL_law Q 509 [l0, l1, .ref x, l3] (.ref x :: st) h := Ex_nx rfl rfl
theorem rL_law_509 (Q : Po) (h : Hp) (l1 l2 l3 : Value) (x : Nat) (st : List Value) : Ex mL_law Q 509 [.ref x, l1, l2, l3] st h = Ex mL_law Q 510 [.ref x, l1, l2, l3] (.ref x :: st) h := Ex_nx rfl rfl
theorem rL_law_510 (Q : Po) (h : Hp) (l0 l1 l2 : Value) (x : Int32) (st : List Value) : Ex mL_law Q 510 [l0, l1, l2, .int x] st h = Ex mL_law Q 511 [l0, l1, l2, .int x] (.int x :: st) h := Ex_nx rfl rfl
theorem rL_law_511 (Q : Po) (h : Hp) (ls : List Value) (st : List Value) : Ex mL_law Q 511 ls st h = Ex mL_law Q 512 ls (.int 1 :: st) h := Ex_nx rfl rfl
theorem rL_law_512 (Q : Po) (h : Hp) (ls : List Value) (st : List Value) (x y : Int32) : Ex mL_law Q 512 ls (.int y :: .int x :: st) h = Ex mL_law Q 513 ls (.int (x + y) :: st) h := Ex_nx rfl rfl
theorem rL_law_513 (Q : Po) (h : Hp) (ls : List Value) (st : List Value) (a : Nat) (i : Int32) : Ex mL_law Q 513 ls (.int i :: .ref a :: st) h = ((gK h a = 58 ∧ ¬ (i < 0 ∨ gL h a ≤ i.toNatClampNeg)) ∧ Ex mL_law Q 514 ls (.int (gI h a i.toNatClampNeg) :: st) h) := Ex_gd rfl rfl
theorem rL_law_514 (Q : Po) (h : Hp) (l1 l2 l3 : Value) (x : Nat) (st : List Value) : Ex mL_law Q 514 [.ref x, l1, l2, l3] st h = Ex mL_law Q 515 [.ref x, l1, l2, l3] (.ref x :: st) h := Ex_nx rfl rfl
theorem rL_law_515 (Q : Po) (h : Hp) (l0 l1 l2 : Value) (x : Int32) (st : List Value) : Ex mL_law Q 515 [l0, l1, l2, .int x] st h = Ex mL_law Q 516 [l0, l1, l2, .int x] (.int x :: st) h := Ex_nx rfl rfl
theorem rL_law_516 (Q : Po) (h : Hp) (ls : List Value) (st : List Value) : Ex mL_law Q 516 ls st h = Ex mL_law Q 517 ls (.int 2 :: st) h := Ex_nx rfl rfl
theorem rL_law_517 (Q : Po) (h : Hp) (ls : List Value) (st : List Value) (x y : Int32) : Ex mL_law Q 517 ls (.int y :: .int x :: st) h = Ex mL_law Q 518 ls (.int (x + y) :: st) h := Ex_nx rfl rfl
theorem rL_law_518 (Q : Po) (h : Hp) (ls : List Value) (st : List Value) (a : Nat) (i : Int32) : Ex mL_law Q 518 ls (.int i :: .ref a :: st) h = ((gK h a = 58 ∧ ¬ (i < 0 ∨ gL h a ≤ i.toNatClampNeg)) ∧ Ex mL_law Q 519 ls (.int (gI h a i.toNatClampNeg) :: st) h) := Ex_gd rfl rfl
theorem rL_law_519 (Q : Po) (h : Hp) (ls : List Value) (a0 : Int32) (a1 : Int32) (s0 : Value) (b : Nat) : Ex mL_law Q 519 ls (.int a1 :: .int a0 :: .ref b :: [s0]) h = (gK h b = 9 ∧ Ex mX9_keepIt (Cont mL_law Q 519 ls 522 [s0]) 0 [.ref b, .int a0, .int a1] [] h) := Ex_cg (n := 3) (as := [.ref b, .int a0, .int a1]) rfl rfl
theorem rL_law_522 (Q : Po) (h : Hp) (ls : List Value) (st : List Value) (x y : Int32) : Ex mL_law Q 522 ls (.int y :: .int x :: st) h = if x = y then Ex mL_law Q 1514 ls st h else Ex mL_law Q 525 ls st h := Ex_br rfl rfl
theorem rL_law_525 (Q : Po) (h : Hp) (ls : List Value) (st : List Value) : Ex mL_law Q 525 ls st h = Ex mL_law Q 526 ls (.int 0 :: st) h := Ex_nx rfl rfl
theorem rL_law_526 (Q : Po) (h : Hp) (ls : List Value) (x : Int32) : Ex mL_law Q 526 ls [.int x] h = ((x = 0 ∨ x = 1) ∧ Q (.inl (some (.int x))) h) := Ex_rg rfl rfl
theorem rL_law_527 (Q : Po) (h : Hp) (l0 l2 l3 : Value) (x : Nat) (st : List Value) : Ex mL_law Q 527 [l0, .ref x, l2, l3] st h = Ex mL_law Q 528 [l0, .ref x, l2, l3] (.ref x :: st) h := Ex_nx rfl rfl
theorem rL_law_528 (Q : Po) (h : Hp) (l1 l2 l3 : Value) (x : Nat) (st : List Value) : Ex mL_law Q 528 [.ref x, l1, l2, l3] st h = Ex mL_law Q 529 [.ref x, l1, l2, l3] (.ref x :: st) h := Ex_nx rfl rfl
theorem rL_law_529 (Q : Po) (h : Hp) (l0 l1 l2 : Value) (x : Int32) (st : List Value) : Ex mL_law Q 529 [l0, l1, l2, .int x] st h = Ex mL_law Q 530 [l0, l1, l2, .int x] (.int x :: st) h := Ex_nx rfl rfl
theorem rL_law_530 (Q : Po) (h : Hp) (ls : List Value) (st : List Value) : Ex mL_law Q 530 ls st h = Ex mL_law Q 531 ls (.int 1 :: st) h := Ex_nx rfl rfl
theorem rL_law_531 (Q : Po) (h : Hp) (ls : List Value) (st : List Value) (x y : Int32) : Ex mL_law Q 531 ls (.int y :: .int x :: st) h = Ex mL_law Q 532 ls (.int (x + y) :: st) h := Ex_nx rfl rfl
theorem rL_law_532 (Q : Po) (h : Hp) (ls : List Value) (st : List Value) (a : Nat) (i : Int32) : Ex mL_law Q 532 ls (.int i :: .ref a :: st) h = ((gK h a = 58 ∧ ¬ (i < 0 ∨ gL h a ≤ i.toNatClampNeg)) ∧ Ex mL_law Q 533 ls (.int (gI h a i.toNatClampNeg) :: st) h) := Ex_gd rfl rfl
theorem rL_law_533 (Q : Po) (h : Hp) (l1 l2 l3 : Value) (x : Nat) (st : List Value) : Ex mL_law Q 533 [.ref x, l1, l2, l3] st h = Ex mL_law Q 534 [.ref x, l1, l2, l3] (.ref x :: st) h := Ex_nx rfl rfl
theorem rL_law_534 (Q : Po) (h : Hp) (l0 l1 l2 : Value) (x : Int32) (st : List Value) : Ex mL_law Q 534 [l0, l1, l2, .int x] st h = Ex mL_law Q 535 [l0, l1, l2, .int x] (.int x :: st) h := Ex_nx rfl rfl
theorem rL_law_535 (Q : Po) (h : Hp) (ls : List Value) (st : List Value) : Ex mL_law Q 535 ls st h = Ex mL_law Q 536 ls (.int 2 :: st) h := Ex_nx rfl rfl
theorem rL_law_536 (Q : Po) (h : Hp) (ls : List Value) (st : List Value) (x y : Int32) : Ex mL_law Q 536 ls (.int y :: .int x :: st) h = Ex mL_law Q 537 ls (.int (x + y) :: st) h := Ex_nx rfl rfl
theorem rL_law_537 (Q : Po) (h : Hp) (ls : List Value) (st : List Value) (a : Nat) (i : Int32) : Ex mL_law Q 537 ls (.int i :: .ref a :: st) h = ((gK h a = 58 ∧ ¬ (i < 0 ∨ gL h a ≤ i.toNatClampNeg)) ∧ Ex mL_law Q 538 ls (.int (gI h a i.toNatClampNeg) :: st) h) := Ex_gd rfl rfl
theorem rL_law_538 (Q : Po) (h : Hp) (ls : List Value) (a0 : Int32) (a1 : Int32) (b : Nat) : Ex mL_law Q 538 ls (.int a1 :: .int a0 :: .ref b :: []) h = (gK h b = 1 ∧ Ex mX0_change (Cont mL_law Q 538 ls 541 []) 0 [.ref b, .int a0, .int a1, .retAddr 0] [] h) := Ex_cg (n := 4) (as := [.ref b, .int a0, .int a1]) rfl rfl
theorem rL_law_541 (Q : Po) (h : Hp) (l0 l1 l3 : Value) (x : Nat) (st : List Value) : Ex mL_law Q 541 [l0, l1, .ref x, l3] st h = Ex mL_law Q 542 [l0, l1, .ref x, l3] (.ref x :: st) h := Ex_nx rfl rfl
theorem rL_law_542 (Q : Po) (h : Hp) (l1 l2 l3 : Value) (x : Nat) (st : List Value) : Ex mL_law Q 542 [.ref x, l1, l2, l3] st h = Ex mL_law Q 543 [.ref x, l1, l2, l3] (.ref x :: st) h := Ex_nx rfl rfl
theorem rL_law_543 (Q : Po) (h : Hp) (l0 l1 l2 : Value) (x : Int32) (st : List Value) : Ex mL_law Q 543 [l0, l1, l2, .int x] st h = Ex mL_law Q 544 [l0, l1, l2, .int x] (.int x :: st) h := Ex_nx rfl rfl
theorem rL_law_544 (Q : Po) (h : Hp) (ls : List Value) (st : List Value) : Ex mL_law Q 544 ls st h = Ex mL_law Q 545 ls (.int 1 :: st) h := Ex_nx rfl rfl
theorem rL_law_545 (Q : Po) (h : Hp) (ls : List Value) (st : List Value) (x y : Int32) : Ex mL_law Q 545 ls (.int y :: .int x :: st) h = Ex mL_law Q 546 ls (.int (x + y) :: st) h := Ex_nx rfl rfl
theorem rL_law_546 (Q : Po) (h : Hp) (ls : List Value) (st : List Value) (a : Nat) (i : Int32) : Ex mL_law Q 546 ls (.int i :: .ref a :: st) h = ((gK h a = 58 ∧ ¬ (i < 0 ∨ gL h a ≤ i.toNatClampNeg)) ∧ Ex mL_law Q 547 ls (.int (gI h a i.toNatClampNeg) :: st) h) := Ex_gd rfl rfl
theorem rL_law_547 (Q : Po) (h : Hp) (l1 l2 l3 : Value) (x : Nat) (st : List Value) : Ex mL_law Q 547 [.ref x, l1, l2, l3] st h = Ex mL_law Q 548 [.ref x, l1, l2, l3] (.ref x :: st) h := Ex_nx rfl rfl
theorem rL_law_548 (Q : Po) (h : Hp) (l0 l1 l2 : Value) (x : Int32) (st : List Value) : Ex mL_law Q 548 [l0, l1, l2, .int x] st h = Ex mL_law Q 549 [l0, l1, l2, .int x] (.int x :: st) h := Ex_nx rfl rfl
theorem rL_law_549 (Q : Po) (h : Hp) (ls : List Value) (st : List Value) : Ex mL_law Q 549 ls st h = Ex mL_law Q 550 ls (.int 2 :: st) h := Ex_nx rfl rfl
theorem rL_law_550 (Q : Po) (h : Hp) (ls : List Value) (st : List Value) (x y : Int32) : Ex mL_law Q 550 ls (.int y :: .int x :: st) h = Ex mL_law Q 551 ls (.int (x + y) :: st) h := Ex_nx rfl rfl
theorem rL_law_551 (Q : Po) (h : Hp) (ls : List Value) (st : List Value) (a : Nat) (i : Int32) : Ex mL_law Q 551 ls (.int i :: .ref a :: st) h = ((gK h a = 58 ∧ ¬ (i < 0 ∨ gL h a ≤ i.toNatClampNeg)) ∧ Ex mL_law Q 552 ls (.int (gI h a i.toNatClampNeg) :: st) h) := Ex_gd rfl rfl
theorem rL_law_552 (Q : Po) (h : Hp) (ls : List Value) (a0 : Int32) (a1 : Int32) (s0 : Value) (b : Nat) : Ex mL_law Q 552 ls (.int a1 :: .int a0 :: .ref b :: [s0]) h = (gK h b = 9 ∧ Ex mX9_change (Cont mL_law Q 552 ls 555 [s0]) 0 [.ref b, .int a0, .int a1, .retAddr 0] [] h) := Ex_cg (n := 4) (as := [.ref b, .int a0, .int a1]) rfl rfl
theorem rL_law_555 (Q : Po) (h : Hp) (ls : List Value) (st : List Value) (x y : Int32) : Ex mL_law Q 555 ls (.int y :: .int x :: st) h = if x = y then Ex mL_law Q 1514 ls st h else Ex mL_law Q 558 ls st h := Ex_br rfl rfl
theorem rL_law_558 (Q : Po) (h : Hp) (ls : List Value) (st : List Value) : Ex mL_law Q 558 ls st h = Ex mL_law Q 559 ls (.int 0 :: st) h := Ex_nx rfl rfl
theorem rL_law_559 (Q : Po) (h : Hp) (ls : List Value) (x : Int32) : Ex mL_law Q 559 ls [.int x] h = ((x = 0 ∨ x = 1) ∧ Q (.inl (some (.int x))) h) := Ex_rg rfl rfl
theorem rL_law_560 (Q : Po) (h : Hp) (l0 l2 l3 : Value) (x : Nat) (st : List Value) : Ex mL_law Q 560 [l0, .ref x, l2, l3] st h = Ex mL_law Q 561 [l0, .ref x, l2, l3] (.ref x :: st) h := Ex_nx rfl rfl
theorem rL_law_561 (Q : Po) (h : Hp) (l1 l2 l3 : Value) (x : Nat) (st : List Value) : Ex mL_law Q 561 [.ref x, l1, l2, l3] st h = Ex mL_law Q 562 [.ref x, l1, l2, l3] (.ref x :: st) h := Ex_nx rfl rfl
theorem rL_law_562 (Q : Po) (h : Hp) (l0 l1 l2 : Value) (x : Int32) (st : List Value) : Ex mL_law Q 562 [l0, l1, l2, .int x] st h = Ex mL_law Q 563 [l0, l1, l2, .int x] (.int x :: st) h := Ex_nx rfl rfl
theorem rL_law_563 (Q : Po) (h : Hp) (ls : List Value) (st : List Value) : Ex mL_law Q 563 ls st h = Ex mL_law Q 564 ls (.int 1 :: st) h := Ex_nx rfl rfl
theorem rL_law_564 (Q : Po) (h : Hp) (ls : List Value) (st : List Value) (x y : Int32) : Ex mL_law Q 564 ls (.int y :: .int x :: st) h = Ex mL_law Q 565 ls (.int (x + y) :: st) h := Ex_nx rfl rfl
theorem rL_law_565 (Q : Po) (h : Hp) (ls : List Value) (st : List Value) (a : Nat) (i : Int32) : Ex mL_law Q 565 ls (.int i :: .ref a :: st) h = ((gK h a = 58 ∧ ¬ (i < 0 ∨ gL h a ≤ i.toNatClampNeg)) ∧ Ex mL_law Q 566 ls (.int (gI h a i.toNatClampNeg) :: st) h) := Ex_gd rfl rfl
theorem rL_law_566 (Q : Po) (h : Hp) (l1 l2 l3 : Value) (x : Nat) (st : List Value) : Ex mL_law Q 566 [.ref x, l1, l2, l3] st h = Ex mL_law Q 567 [.ref x, l1, l2, l3] (.ref x :: st) h := Ex_nx rfl rfl
theorem rL_law_567 (Q : Po) (h : Hp) (l0 l1 l2 : Value) (x : Int32) (st : List Value) : Ex mL_law Q 567 [l0, l1, l2, .int x] st h = Ex mL_law Q 568 [l0, l1, l2, .int x] (.int x :: st) h := Ex_nx rfl rfl
theorem rL_law_568 (Q : Po) (h : Hp) (ls : List Value) (st : List Value) : Ex mL_law Q 568 ls st h = Ex mL_law Q 569 ls (.int 2 :: st) h := Ex_nx rfl rfl
theorem rL_law_569 (Q : Po) (h : Hp) (ls : List Value) (st : List Value) (x y : Int32) : Ex mL_law Q 569 ls (.int y :: .int x :: st) h = Ex mL_law Q 570 ls (.int (x + y) :: st) h := Ex_nx rfl rfl
theorem rL_law_570 (Q : Po) (h : Hp) (ls : List Value) (st : List Value) (a : Nat) (i : Int32) : Ex mL_law Q 570 ls (.int i :: .ref a :: st) h = ((gK h a = 58 ∧ ¬ (i < 0 ∨ gL h a ≤ i.toNatClampNeg)) ∧ Ex mL_law Q 571 ls (.int (gI h a i.toNatClampNeg) :: st) h) := Ex_gd rfl rfl
theorem rL_law_571 (Q : Po) (h : Hp) (ls : List Value) (a0 : Int32) (a1 : Int32) (b : Nat) : Ex mL_law Q 571 ls (.int a1 :: .int a0 :: .ref b :: []) h = (gK h b = 1 ∧ Ex mX0_move (Cont mL_law Q 571 ls 574 []) 0 [.ref b, .int a0, .int a1, .retAddr 0] [] h) := Ex_cg (n := 4) (as := [.ref b, .int a0, .int a1]) rfl rfl
theorem rL_law_574 (Q : Po) (h : Hp) (l0 l1 l3 : Value) (x : Nat) (st : List Value) : Ex mL_law Q 574 [l0, l1, .ref x, l3] st h = Ex mL_law Q 575 [l0, l1, .ref x, l3] (.ref x :: st) h := Ex_nx rfl rfl
theorem rL_law_575 (Q : Po) (h : Hp) (l1 l2 l3 : Value) (x : Nat) (st : List Value) : Ex mL_law Q 575 [.ref x, l1, l2, l3] st h = Ex mL_law Q 576 [.ref x, l1, l2, l3] (.ref x :: st) h := Ex_nx rfl rfl
theorem rL_law_576 (Q : Po) (h : Hp) (l0 l1 l2 : Value) (x : Int32) (st : List Value) : Ex mL_law Q 576 [l0, l1, l2, .int x] st h = Ex mL_law Q 577 [l0, l1, l2, .int x] (.int x :: st) h := Ex_nx rfl rfl
theorem rL_law_577 (Q : Po) (h : Hp) (ls : List Value) (st : List Value) : Ex mL_law Q 577 ls st h = Ex mL_law Q 578 ls (.int 1 :: st) h := Ex_nx rfl rfl
theorem rL_law_578 (Q : Po) (h : Hp) (ls : List Value) (st : List Value) (x y : Int32) : Ex mL_law Q 578 ls (.int y :: .int x :: st) h = Ex mL_law Q 579 ls (.int (x + y) :: st) h := Ex_nx rfl rfl
theorem rL_law_579 (Q : Po) (h : Hp) (ls : List Value) (st : List Value) (a : Nat) (i : Int32) : Ex mL_law Q 579 ls (.int i :: .ref a :: st) h = ((gK h a = 58 ∧ ¬ (i < 0 ∨ gL h a ≤ i.toNatClampNeg)) ∧ Ex mL_law Q 580 ls (.int (gI h a i.toNatClampNeg) :: st) h) := Ex_gd rfl rfl
theorem rL_law_580 (Q : Po) (h : Hp) (l1 l2 l3 : Value) (x : Nat) (st : List Value) : Ex mL_law Q 580 [.ref x, l1, l2, l3] st h = Ex mL_law Q 581 [.ref x, l1, l2, l3] (.ref x :: st) h := Ex_nx rfl rfl
theorem rL_law_581 (Q : Po) (h : Hp) (l0 l1 l2 : Value) (x : Int32) (st : List Value) : Ex mL_law Q 581 [l0, l1, l2, .int x] st h = Ex mL_law Q 582 [l0, l1, l2, .int x] (.int x :: st) h := Ex_nx rfl rfl
theorem rL_law_582 (Q : Po) (h : Hp) (ls : List Value) (st : List Value) : Ex mL_law Q 582 ls st h = Ex mL_law Q 583 ls (.int 2 :: st) h := Ex_nx rfl rfl
theorem rL_law_583 (Q : Po) (h : Hp) (ls : List Value) (st : List Value) (x y : Int32) : Ex mL_law Q 583 ls (.int y :: .int x :: st) h = Ex mL_law Q 584 ls (.int (x + y) :: st) h := Ex_nx rfl rfl
theorem rL_law_584 (Q : Po) (h : Hp) (ls : List Value) (st : List Value) (a : Nat) (i : Int32) : Ex mL_law Q 584 ls (.int i :: .ref a :: st) h = ((gK h a = 58 ∧ ¬ (i < 0 ∨ gL h a ≤ i.toNatClampNeg)) ∧ Ex mL_law Q 585 ls (.int (gI h a i.toNatClampNeg) :: st) h) := Ex_gd rfl rfl
theorem rL_law_585 (Q : Po) (h : Hp) (ls : List Value) (a0 : Int32) (a1 : Int32) (s0 : Value) (b : Nat) : Ex mL_law Q 585 ls (.int a1 :: .int a0 :: .ref b :: [s0]) h = (gK h b = 9 ∧ Ex mX9_move (Cont mL_law Q 585 ls 588 [s0]) 0 [.ref b, .int a0, .int a1, .retAddr 0] [] h) := Ex_cg (n := 4) (as := [.ref b, .int a0, .int a1]) rfl rfl
theorem rL_law_588 (Q : Po) (h : Hp) (ls : List Value) (st : List Value) (x y : Int32) : Ex mL_law Q 588 ls (.int y :: .int x :: st) h = if x = y then Ex mL_law Q 1514 ls st h else Ex mL_law Q 591 ls st h := Ex_br rfl rfl
theorem rL_law_591 (Q : Po) (h : Hp) (ls : List Value) (st : List Value) : Ex mL_law Q 591 ls st h = Ex mL_law Q 592 ls (.int 0 :: st) h := Ex_nx rfl rfl
theorem rL_law_592 (Q : Po) (h : Hp) (ls : List Value) (x : Int32) : Ex mL_law Q 592 ls [.int x] h = ((x = 0 ∨ x = 1) ∧ Q (.inl (some (.int x))) h) := Ex_rg rfl rfl
theorem rL_law_593 (Q : Po) (h : Hp) (l0 l2 l3 : Value) (x : Nat) (st : List Value) : Ex mL_law Q 593 [l0, .ref x, l2, l3] st h = Ex mL_law Q 594 [l0, .ref x, l2, l3] (.ref x :: st) h := Ex_nx rfl rfl
theorem rL_law_594 (Q : Po) (h : Hp) (l1 l2 l3 : Value) (x : Nat) (st : List Value) : Ex mL_law Q 594 [.ref x, l1, l2, l3] st h = Ex mL_law Q 595 [.ref x, l1, l2, l3] (.ref x :: st) h := Ex_nx rfl rfl
theorem rL_law_595 (Q : Po) (h : Hp) (l0 l1 l2 : Value) (x : Int32) (st : List Value) : Ex mL_law Q 595 [l0, l1, l2, .int x] st h = Ex mL_law Q 596 [l0, l1, l2, .int x] (.int x :: st) h := Ex_nx rfl rfl
theorem rL_law_596 (Q : Po) (h : Hp) (ls : List Value) (st : List Value) : Ex mL_law Q 596 ls st h = Ex mL_law Q 597 ls (.int 1 :: st) h := Ex_nx rfl rfl
theorem rL_law_597 (Q : Po) (h : Hp) (ls : List Value) (st : List Value) (x y : Int32) : Ex mL_law Q 597 ls (.int y :: .int x :: st) h = Ex mL_law Q 598 ls (.int (x + y) :: st) h := Ex_nx rfl rfl
theorem rL_law_598 (Q : Po) (h : Hp) (ls : List Value) (st : List Value) (a : Nat) (i : Int32) : Ex mL_law Q 598 ls (.int i :: .ref a :: st) h = ((gK h a = 58 ∧ ¬ (i < 0 ∨ gL h a ≤ i.toNatClampNeg)) ∧ Ex mL_law Q 599 ls (.int (gI h a i.toNatClampNeg) :: st) h) := Ex_gd rfl rfl
theorem rL_law_599 (Q : Po) (h : Hp) (ls : List Value) (a0 : Int32) (b : Nat) : Ex mL_law Q 599 ls (.int a0 :: .ref b :: []) h = (gK h b = 1 ∧ Ex mX0_catchIt (Cont mL_law Q 599 ls 602 []) 0 [.ref b, .int a0] [] h) := Ex_cg (n := 2) (as := [.ref b, .int a0]) rfl rfl
theorem rL_law_602 (Q : Po) (h : Hp) (l0 l1 l3 : Value) (x : Nat) (st : List Value) : Ex mL_law Q 602 [l0, l1, .ref x, l3] st h = Ex mL_law Q 603 [l0, l1, .ref x, l3] (.ref x :: st) h := Ex_nx rfl rfl
theorem rL_law_603 (Q : Po) (h : Hp) (l1 l2 l3 : Value) (x : Nat) (st : List Value) : Ex mL_law Q 603 [.ref x, l1, l2, l3] st h = Ex mL_law Q 604 [.ref x, l1, l2, l3] (.ref x :: st) h := Ex_nx rfl rfl
theorem rL_law_604 (Q : Po) (h : Hp) (l0 l1 l2 : Value) (x : Int32) (st : List Value) : Ex mL_law Q 604 [l0, l1, l2, .int x] st h = Ex mL_law Q 605 [l0, l1, l2, .int x] (.int x :: st) h := Ex_nx rfl rfl
theorem rL_law_605 (Q : Po) (h : Hp) (ls : List Value) (st : List Value) : Ex mL_law Q 605 ls st h = Ex mL_law Q 606 ls (.int 1 :: st) h := Ex_nx rfl rfl
theorem rL_law_606 (Q : Po) (h : Hp) (ls : List Value) (st : List Value) (x y : Int32) : Ex mL_law Q 606 ls (.int y :: .int x :: st) h = Ex mL_law Q 607 ls (.int (x + y) :: st) h := Ex_nx rfl rfl
theorem rL_law_607 (Q : Po) (h : Hp) (ls : List Value) (st : List Value) (a : Nat) (i : Int32) : Ex mL_law Q 607 ls (.int i :: .ref a :: st) h = ((gK h a = 58 ∧ ¬ (i < 0 ∨ gL h a ≤ i.toNatClampNeg)) ∧ Ex mL_law Q 608 ls (.int (gI h a i.toNatClampNeg) :: st) h) := Ex_gd rfl rfl
theorem rL_law_608 (Q : Po) (h : Hp) (ls : List Value) (a0 : Int32) (s0 : Value) (b : Nat) : Ex mL_law Q 608 ls (.int a0 :: .ref b :: [s0]) h = (gK h b = 9 ∧ Ex mX9_catchIt (Cont mL_law Q 608 ls 611 [s0]) 0 [.ref b, .int a0] [] h) := Ex_cg (n := 2) (as := [.ref b, .int a0]) rfl rfl
theorem rL_law_611 (Q : Po) (h : Hp) (ls : List Value) (st : List Value) (x y : Int32) : Ex mL_law Q 611 ls (.int y :: .int x :: st) h = if x = y then Ex mL_law Q 1514 ls st h else Ex mL_law Q 614 ls st h := Ex_br rfl rfl
theorem rL_law_614 (Q : Po) (h : Hp) (ls : List Value) (st : List Value) : Ex mL_law Q 614 ls st h = Ex mL_law Q 615 ls (.int 0 :: st) h := Ex_nx rfl rfl
theorem rL_law_615 (Q : Po) (h : Hp) (ls : List Value) (x : Int32) : Ex mL_law Q 615 ls [.int x] h = ((x = 0 ∨ x = 1) ∧ Q (.inl (some (.int x))) h) := Ex_rg rfl rfl
theorem rL_law_616 (Q : Po) (h : Hp) (l0 l2 l3 : Value) (x : Nat) (st : List Value) : Ex mL_law Q 616 [l0, .ref x, l2, l3] st h = Ex mL_law Q 617 [l0, .ref x, l2, l3] (.ref x :: st) h := Ex_nx rfl rfl
theorem rL_law_617 (Q : Po) (h : Hp) (l1 l2 l3 : Value) (x : Nat) (st : List Value) : Ex mL_law Q 617 [.ref x, l1, l2, l3] st h = Ex mL_law Q 618 [.ref x, l1, l2, l3] (.ref x :: st) h := Ex_nx rfl rfl
theorem rL_law_618 (Q : Po) (h : Hp) (l0 l1 l2 : Value) (x : Int32) (st : List Value) : Ex mL_law Q 618 [l0, l1, l2, .int x] st h = Ex mL_law Q 619 [l0, l1, l2, .int x] (.int x :: st) h := Ex_nx rfl rfl
theorem rL_law_619 (Q : Po) (h : Hp) (ls : List Value) (st : List Value) : Ex mL_law Q 619 ls st h = Ex mL_law Q 620 ls (.int 1 :: st) h := Ex_nx rfl rfl
theorem rL_law_620 (Q : Po) (h : Hp) (ls : List Value) (st : List Value) (x y : Int32) : Ex mL_law Q 620 ls (.int y :: .int x :: st) h = Ex mL_law Q 621 ls (.int (x + y) :: st) h := Ex_nx rfl rfl
theorem rL_law_621 (Q : Po) (h : Hp) (ls : List Value) (st : List Value) (a : Nat) (i : Int32) : Ex mL_law Q 621 ls (.int i :: .ref a :: st) h = ((gK h a = 58 ∧ ¬ (i < 0 ∨ gL h a ≤ i.toNatClampNeg)) ∧ Ex mL_law Q 622 ls (.int (gI h a i.toNatClampNeg) :: st) h) := Ex_gd rfl rfl
theorem rL_law_622 (Q : Po) (h : Hp) (l1 l2 l3 : Value) (x : Nat) (st : List Value) : Ex mL_law Q 622 [.ref x, l1, l2, l3] st h = Ex mL_law Q 623 [.ref x, l1, l2, l3] (.ref x :: st) h := Ex_nx rfl rfl
theorem rL_law_623 (Q : Po) (h : Hp) (l0 l1 l2 : Value) (x : Int32) (st : List Value) : Ex mL_law Q 623 [l0, l1, l2, .int x] st h = Ex mL_law Q 624 [l0, l1, l2, .int x] (.int x :: st) h := Ex_nx rfl rfl
theorem rL_law_624 (Q : Po) (h : Hp) (ls : List Value) (st : List Value) : Ex mL_law Q 624 ls st h = Ex mL_law Q 625 ls (.int 2 :: st) h := Ex_nx rfl rfl
theorem rL_law_625 (Q : Po) (h : Hp) (ls : List Value) (st : List Value) (x y : Int32) : Ex mL_law Q 625 ls (.int y :: .int x :: st) h = Ex mL_law Q 626 ls (.int (x + y) :: st) h := Ex_nx rfl rfl
theorem rL_law_626 (Q : Po) (h : Hp) (ls : List Value) (st : List Value) (a : Nat) (i : Int32) : Ex mL_law Q 626 ls (.int i :: .ref a :: st) h = ((gK h a = 58 ∧ ¬ (i < 0 ∨ gL h a ≤ i.toNatClampNeg)) ∧ Ex mL_law Q 627 ls (.int (gI h a i.toNatClampNeg) :: st) h) := Ex_gd rfl rfl
theorem rL_law_627 (Q : Po) (h : Hp) (ls : List Value) (a0 : Int32) (a1 : Int32) (b : Nat) : Ex mL_law Q 627 ls (.int a1 :: .int a0 :: .ref b :: []) h = (gK h b = 1 ∧ Ex mX0_book (Cont mL_law Q 627 ls 630 []) 0 [.ref b, .int a0, .int a1] [] h) := Ex_cg (n := 3) (as := [.ref b, .int a0, .int a1]) rfl rfl
theorem rL_law_630 (Q : Po) (h : Hp) (l0 l1 l3 : Value) (x : Nat) (st : List Value) : Ex mL_law Q 630 [l0, l1, .ref x, l3] st h = Ex mL_law Q 631 [l0, l1, .ref x, l3] (.ref x :: st) h := Ex_nx rfl rfl
theorem rL_law_631 (Q : Po) (h : Hp) (l1 l2 l3 : Value) (x : Nat) (st : List Value) : Ex mL_law Q 631 [.ref x, l1, l2, l3] st h = Ex mL_law Q 632 [.ref x, l1, l2, l3] (.ref x :: st) h := Ex_nx rfl rfl
theorem rL_law_632 (Q : Po) (h : Hp) (l0 l1 l2 : Value) (x : Int32) (st : List Value) : Ex mL_law Q 632 [l0, l1, l2, .int x] st h = Ex mL_law Q 633 [l0, l1, l2, .int x] (.int x :: st) h := Ex_nx rfl rfl
theorem rL_law_633 (Q : Po) (h : Hp) (ls : List Value) (st : List Value) : Ex mL_law Q 633 ls st h = Ex mL_law Q 634 ls (.int 1 :: st) h := Ex_nx rfl rfl
theorem rL_law_634 (Q : Po) (h : Hp) (ls : List Value) (st : List Value) (x y : Int32) : Ex mL_law Q 634 ls (.int y :: .int x :: st) h = Ex mL_law Q 635 ls (.int (x + y) :: st) h := Ex_nx rfl rfl
theorem rL_law_635 (Q : Po) (h : Hp) (ls : List Value) (st : List Value) (a : Nat) (i : Int32) : Ex mL_law Q 635 ls (.int i :: .ref a :: st) h = ((gK h a = 58 ∧ ¬ (i < 0 ∨ gL h a ≤ i.toNatClampNeg)) ∧ Ex mL_law Q 636 ls (.int (gI h a i.toNatClampNeg) :: st) h) := Ex_gd rfl rfl
theorem rL_law_636 (Q : Po) (h : Hp) (l1 l2 l3 : Value) (x : Nat) (st : List Value) : Ex mL_law Q 636 [.ref x, l1, l2, l3] st h = Ex mL_law Q 637 [.ref x, l1, l2, l3] (.ref x :: st) h := Ex_nx rfl rfl
theorem rL_law_637 (Q : Po) (h : Hp) (l0 l1 l2 : Value) (x : Int32) (st : List Value) : Ex mL_law Q 637 [l0, l1, l2, .int x] st h = Ex mL_law Q 638 [l0, l1, l2, .int x] (.int x :: st) h := Ex_nx rfl rfl
theorem rL_law_638 (Q : Po) (h : Hp) (ls : List Value) (st : List Value) : Ex mL_law Q 638 ls st h = Ex mL_law Q 639 ls (.int 2 :: st) h := Ex_nx rfl rfl
theorem rL_law_639 (Q : Po) (h : Hp) (ls : List Value) (st : List Value) (x y : Int32) : Ex mL_law Q 639 ls (.int y :: .int x :: st) h = Ex mL_law Q 640 ls (.int (x + y) :: st) h := Ex_nx rfl rfl
theorem rL_law_640 (Q : Po) (h : Hp) (ls : List Value) (st : List Value) (a : Nat) (i : Int32) : Ex mL_law Q 640 ls (.int i :: .ref a :: st) h = ((gK h a = 58 ∧ ¬ (i < 0 ∨ gL h a ≤ i.toNatClampNeg)) ∧ Ex mL_law Q 641 ls (.int (gI h a i.toNatClampNeg) :: st) h) := Ex_gd rfl rfl
theorem rL_law_641 (Q : Po) (h : Hp) (ls : List Value) (a0 : Int32) (a1 : Int32) (s0 : Value) (b : Nat) : Ex mL_law Q 641 ls (.int a1 :: .int a0 :: .ref b :: [s0]) h = (gK h b = 9 ∧ Ex mX9_book (Cont mL_law Q 641 ls 644 [s0]) 0 [.ref b, .int a0, .int a1] [] h) := Ex_cg (n := 3) (as := [.ref b, .int a0, .int a1]) rfl rfl
theorem rL_law_644 (Q : Po) (h : Hp) (ls : List Value) (st : List Value) (x y : Int32) : Ex mL_law Q 644 ls (.int y :: .int x :: st) h = if x = y then Ex mL_law Q 1514 ls st h else Ex mL_law Q 647 ls st h := Ex_br rfl rfl
theorem rL_law_647 (Q : Po) (h : Hp) (ls : List Value) (st : List Value) : Ex mL_law Q 647 ls st h = Ex mL_law Q 648 ls (.int 0 :: st) h := Ex_nx rfl rfl
theorem rL_law_648 (Q : Po) (h : Hp) (ls : List Value) (x : Int32) : Ex mL_law Q 648 ls [.int x] h = ((x = 0 ∨ x = 1) ∧ Q (.inl (some (.int x))) h) := Ex_rg rfl rfl
theorem rL_law_649 (Q : Po) (h : Hp) (l0 l2 l3 : Value) (x : Nat) (st : List Value) : Ex mL_law Q 649 [l0, .ref x, l2, l3] st h = Ex mL_law Q 650 [l0, .ref x, l2, l3] (.ref x :: st) h := Ex_nx rfl rfl
theorem rL_law_650 (Q : Po) (h : Hp) (l1 l2 l3 : Value) (x : Nat) (st : List Value) : Ex mL_law Q 650 [.ref x, l1, l2, l3] st h = Ex mL_law Q 651 [.ref x, l1, l2, l3] (.ref x :: st) h := Ex_nx rfl rfl
theorem rL_law_651 (Q : Po) (h : Hp) (l0 l1 l2 : Value) (x : Int32) (st : List Value) : Ex mL_law Q 651 [l0, l1, l2, .int x] st h = Ex mL_law Q 652 [l0, l1, l2, .int x] (.int x :: st) h := Ex_nx rfl rfl
theorem rL_law_652 (Q : Po) (h : Hp) (ls : List Value) (st : List Value) : Ex mL_law Q 652 ls st h = Ex mL_law Q 653 ls (.int 1 :: st) h := Ex_nx rfl rfl
theorem rL_law_653 (Q : Po) (h : Hp) (ls : List Value) (st : List Value) (x y : Int32) : Ex mL_law Q 653 ls (.int y :: .int x :: st) h = Ex mL_law Q 654 ls (.int (x + y) :: st) h := Ex_nx rfl rfl
theorem rL_law_654 (Q : Po) (h : Hp) (ls : List Value) (st : List Value) (a : Nat) (i : Int32) : Ex mL_law Q 654 ls (.int i :: .ref a :: st) h = ((gK h a = 58 ∧ ¬ (i < 0 ∨ gL h a ≤ i.toNatClampNeg)) ∧ Ex mL_law Q 655 ls (.int (gI h a i.toNatClampNeg) :: st) h) := Ex_gd rfl rfl
theorem rL_law_655 (Q : Po) (h : Hp) (l1 l2 l3 : Value) (x : Nat) (st : List Value) : Ex mL_law Q 655 [.ref x, l1, l2, l3] st h = Ex mL_law Q 656 [.ref x, l1, l2, l3] (.ref x :: st) h := Ex_nx rfl rfl
theorem rL_law_656 (Q : Po) (h : Hp) (l0 l1 l2 : Value) (x : Int32) (st : List Value) : Ex mL_law Q 656 [l0, l1, l2, .int x] st h = Ex mL_law Q 657 [l0, l1, l2, .int x] (.int x :: st) h := Ex_nx rfl rfl
theorem rL_law_657 (Q : Po) (h : Hp) (ls : List Value) (st : List Value) : Ex mL_law Q 657 ls st h = Ex mL_law Q 658 ls (.int 2 :: st) h := Ex_nx rfl rfl
theorem rL_law_658 (Q : Po) (h : Hp) (ls : List Value) (st : List Value) (x y : Int32) : Ex mL_law Q 658 ls (.int y :: .int x :: st) h = Ex mL_law Q 659 ls (.int (x + y) :: st) h := Ex_nx rfl rfl
theorem rL_law_659 (Q : Po) (h : Hp) (ls : List Value) (st : List Value) (a : Nat) (i : Int32) : Ex mL_law Q 659 ls (.int i :: .ref a :: st) h = ((gK h a = 58 ∧ ¬ (i < 0 ∨ gL h a ≤ i.toNatClampNeg)) ∧ Ex mL_law Q 660 ls (.int (gI h a i.toNatClampNeg) :: st) h) := Ex_gd rfl rfl
theorem rL_law_660 (Q : Po) (h : Hp) (ls : List Value) (a0 : Int32) (a1 : Int32) (b : Nat) : Ex mL_law Q 660 ls (.int a1 :: .int a0 :: .ref b :: []) h = (gK h b = 1 ∧ Ex mX0_fish (Cont mL_law Q 660 ls 663 []) 0 [.ref b, .int a0, .int a1, .retAddr 0] [] h) := Ex_cg (n := 4) (as := [.ref b, .int a0, .int a1]) rfl rfl
theorem rL_law_663 (Q : Po) (h : Hp) (l0 l1 l3 : Value) (x : Nat) (st : List Value) : Ex mL_law Q 663 [l0, l1, .ref x, l3] st h = Ex mL_law Q 664 [l0, l1, .ref x, l3] (.ref x :: st) h := Ex_nx rfl rfl
theorem rL_law_664 (Q : Po) (h : Hp) (l1 l2 l3 : Value) (x : Nat) (st : List Value) : Ex mL_law Q 664 [.ref x, l1, l2, l3] st h = Ex mL_law Q 665 [.ref x, l1, l2, l3] (.ref x :: st) h := Ex_nx rfl rfl
theorem rL_law_665 (Q : Po) (h : Hp) (l0 l1 l2 : Value) (x : Int32) (st : List Value) : Ex mL_law Q 665 [l0, l1, l2, .int x] st h = Ex mL_law Q 666 [l0, l1, l2, .int x] (.int x :: st) h := Ex_nx rfl rfl
theorem rL_law_666 (Q : Po) (h : Hp) (ls : List Value) (st : List Value) : Ex mL_law Q 666 ls st h = Ex mL_law Q 667 ls (.int 1 :: st) h := Ex_nx rfl rfl
theorem rL_law_667 (Q : Po) (h : Hp) (ls : List Value) (st : List Value) (x y : Int32) : Ex mL_law Q 667 ls (.int y :: .int x :: st) h = Ex mL_law Q 668 ls (.int (x + y) :: st) h := Ex_nx rfl rfl
theorem rL_law_668 (Q : Po) (h : Hp) (ls : List Value) (st : List Value) (a : Nat) (i : Int32) : Ex mL_law Q 668 ls (.int i :: .ref a :: st) h = ((gK h a = 58 ∧ ¬ (i < 0 ∨ gL h a ≤ i.toNatClampNeg)) ∧ Ex mL_law Q 669 ls (.int (gI h a i.toNatClampNeg) :: st) h) := Ex_gd rfl rfl
theorem rL_law_669 (Q : Po) (h : Hp) (l1 l2 l3 : Value) (x : Nat) (st : List Value) : Ex mL_law Q 669 [.ref x, l1, l2, l3] st h = Ex mL_law Q 670 [.ref x, l1, l2, l3] (.ref x :: st) h := Ex_nx rfl rfl
theorem rL_law_670 (Q : Po) (h : Hp) (l0 l1 l2 : Value) (x : Int32) (st : List Value) : Ex mL_law Q 670 [l0, l1, l2, .int x] st h = Ex mL_law Q 671 [l0, l1, l2, .int x] (.int x :: st) h := Ex_nx rfl rfl
theorem rL_law_671 (Q : Po) (h : Hp) (ls : List Value) (st : List Value) : Ex mL_law Q 671 ls st h = Ex mL_law Q 672 ls (.int 2 :: st) h := Ex_nx rfl rfl
theorem rL_law_672 (Q : Po) (h : Hp) (ls : List Value) (st : List Value) (x y : Int32) : Ex mL_law Q 672 ls (.int y :: .int x :: st) h = Ex mL_law Q 673 ls (.int (x + y) :: st) h := Ex_nx rfl rfl
theorem rL_law_673 (Q : Po) (h : Hp) (ls : List Value) (st : List Value) (a : Nat) (i : Int32) : Ex mL_law Q 673 ls (.int i :: .ref a :: st) h = ((gK h a = 58 ∧ ¬ (i < 0 ∨ gL h a ≤ i.toNatClampNeg)) ∧ Ex mL_law Q 674 ls (.int (gI h a i.toNatClampNeg) :: st) h) := Ex_gd rfl rfl
theorem rL_law_674 (Q : Po) (h : Hp) (ls : List Value) (a0 : Int32) (a1 : Int32) (s0 : Value) (b : Nat) : Ex mL_law Q 674 ls (.int a1 :: .int a0 :: .ref b :: [s0]) h = (gK h b = 9 ∧ Ex mX9_fish (Cont mL_law Q 674 ls 677 [s0]) 0 [.ref b, .int a0, .int a1] [] h) := Ex_cg (n := 3) (as := [.ref b, .int a0, .int a1]) rfl rfl
theorem rL_law_677 (Q : Po) (h : Hp) (ls : List Value) (st : List Value) (x y : Int32) : Ex mL_law Q 677 ls (.int y :: .int x :: st) h = if x = y then Ex mL_law Q 1514 ls st h else Ex mL_law Q 680 ls st h := Ex_br rfl rfl
theorem rL_law_680 (Q : Po) (h : Hp) (ls : List Value) (st : List Value) : Ex mL_law Q 680 ls st h = Ex mL_law Q 681 ls (.int 0 :: st) h := Ex_nx rfl rfl
theorem rL_law_681 (Q : Po) (h : Hp) (ls : List Value) (x : Int32) : Ex mL_law Q 681 ls [.int x] h = ((x = 0 ∨ x = 1) ∧ Q (.inl (some (.int x))) h) := Ex_rg rfl rfl
theorem rL_law_682 (Q : Po) (h : Hp) (l0 l2 l3 : Value) (x : Nat) (st : List Value) : Ex mL_law Q 682 [l0, .ref x, l2, l3] st h = Ex mL_law Q 683 [l0, .ref x, l2, l3] (.ref x :: st) h := Ex_nx rfl rfl
theorem rL_law_683 (Q : Po) (h : Hp) (l1 l2 l3 : Value) (x : Nat) (st : List Value) : Ex mL_law Q 683 [.ref x, l1, l2, l3] st h = Ex mL_law Q 684 [.ref x, l1, l2, l3] (.ref x :: st) h := Ex_nx rfl rfl
theorem rL_law_684 (Q : Po) (h : Hp) (l0 l1 l2 : Value) (x : Int32) (st : List Value) : Ex mL_law Q 684 [l0, l1, l2, .int x] st h = Ex mL_law Q 685 [l0, l1, l2, .int x] (.int x :: st) h := Ex_nx rfl rfl
theorem rL_law_685 (Q : Po) (h : Hp) (ls : List Value) (st : List Value) : Ex mL_law Q 685 ls st h = Ex mL_law Q 686 ls (.int 1 :: st) h := Ex_nx rfl rfl
theorem rL_law_686 (Q : Po) (h : Hp) (ls : List Value) (st : List Value) (x y : Int32) : Ex mL_law Q 686 ls (.int y :: .int x :: st) h = Ex mL_law Q 687 ls (.int (x + y) :: st) h := Ex_nx rfl rfl
theorem rL_law_687 (Q : Po) (h : Hp) (ls : List Value) (st : List Value) (a : Nat) (i : Int32) : Ex mL_law Q 687 ls (.int i :: .ref a :: st) h = ((gK h a = 58 ∧ ¬ (i < 0 ∨ gL h a ≤ i.toNatClampNeg)) ∧ Ex mL_law Q 688 ls (.int (gI h a i.toNatClampNeg) :: st) h) := Ex_gd rfl rfl
theorem rL_law_688 (Q : Po) (h : Hp) (ls : List Value) (a0 : Int32) (b : Nat) : Ex mL_law Q 688 ls (.int a0 :: .ref b :: []) h = (gK h b = 1 ∧ Ex mX0_stand (Cont mL_law Q 688 ls 691 []) 0 [.ref b, .int a0] [] h) := Ex_cg (n := 2) (as := [.ref b, .int a0]) rfl rfl
theorem rL_law_691 (Q : Po) (h : Hp) (l0 l1 l3 : Value) (x : Nat) (st : List Value) : Ex mL_law Q 691 [l0, l1, .ref x, l3] st h = Ex mL_law Q 692 [l0, l1, .ref x, l3] (.ref x :: st) h := Ex_nx rfl rfl
theorem rL_law_692 (Q : Po) (h : Hp) (l1 l2 l3 : Value) (x : Nat) (st : List Value) : Ex mL_law Q 692 [.ref x, l1, l2, l3] st h = Ex mL_law Q 693 [.ref x, l1, l2, l3] (.ref x :: st) h := Ex_nx rfl rfl
theorem rL_law_693 (Q : Po) (h : Hp) (l0 l1 l2 : Value) (x : Int32) (st : List Value) : Ex mL_law Q 693 [l0, l1, l2, .int x] st h = Ex mL_law Q 694 [l0, l1, l2, .int x] (.int x :: st) h := Ex_nx rfl rfl
theorem rL_law_694 (Q : Po) (h : Hp) (ls : List Value) (st : List Value) : Ex mL_law Q 694 ls st h = Ex mL_law Q 695 ls (.int 1 :: st) h := Ex_nx rfl rfl
theorem rL_law_695 (Q : Po) (h : Hp) (ls : List Value) (st : List Value) (x y : Int32) : Ex mL_law Q 695 ls (.int y :: .int x :: st) h = Ex mL_law Q 696 ls (.int (x + y) :: st) h := Ex_nx rfl rfl
theorem rL_law_696 (Q : Po) (h : Hp) (ls : List Value) (st : List Value) (a : Nat) (i : Int32) : Ex mL_law Q 696 ls (.int i :: .ref a :: st) h = ((gK h a = 58 ∧ ¬ (i < 0 ∨ gL h a ≤ i.toNatClampNeg)) ∧ Ex mL_law Q 697 ls (.int (gI h a i.toNatClampNeg) :: st) h) := Ex_gd rfl rfl
theorem rL_law_697 (Q : Po) (h : Hp) (ls : List Value) (a0 : Int32) (s0 : Value) (b : Nat) : Ex mL_law Q 697 ls (.int a0 :: .ref b :: [s0]) h = (gK h b = 9 ∧ Ex mX9_stand (Cont mL_law Q 697 ls 700 [s0]) 0 [.ref b, .int a0] [] h) := Ex_cg (n := 2) (as := [.ref b, .int a0]) rfl rfl
theorem rL_law_700 (Q : Po) (h : Hp) (ls : List Value) (st : List Value) (x y : Int32) : Ex mL_law Q 700 ls (.int y :: .int x :: st) h = if x = y then Ex mL_law Q 1514 ls st h else Ex mL_law Q 703 ls st h := Ex_br rfl rfl
theorem rL_law_703 (Q : Po) (h : Hp) (ls : List Value) (st : List Value) : Ex mL_law Q 703 ls st h = Ex mL_law Q 704 ls (.int 0 :: st) h := Ex_nx rfl rfl
theorem rL_law_704 (Q : Po) (h : Hp) (ls : List Value) (x : Int32) : Ex mL_law Q 704 ls [.int x] h = ((x = 0 ∨ x = 1) ∧ Q (.inl (some (.int x))) h) := Ex_rg rfl rfl
theorem rL_law_705 (Q : Po) (h : Hp) (l0 l2 l3 : Value) (x : Nat) (st : List Value) : Ex mL_law Q 705 [l0, .ref x, l2, l3] st h = Ex mL_law Q 706 [l0, .ref x, l2, l3] (.ref x :: st) h := Ex_nx rfl rfl
theorem rL_law_706 (Q : Po) (h : Hp) (l1 l2 l3 : Value) (x : Nat) (st : List Value) : Ex mL_law Q 706 [.ref x, l1, l2, l3] st h = Ex mL_law Q 707 [.ref x, l1, l2, l3] (.ref x :: st) h := Ex_nx rfl rfl
theorem rL_law_707 (Q : Po) (h : Hp) (l0 l1 l2 : Value) (x : Int32) (st : List Value) : Ex mL_law Q 707 [l0, l1, l2, .int x] st h = Ex mL_law Q 708 [l0, l1, l2, .int x] (.int x :: st) h := Ex_nx rfl rfl
theorem rL_law_708 (Q : Po) (h : Hp) (ls : List Value) (st : List Value) : Ex mL_law Q 708 ls st h = Ex mL_law Q 709 ls (.int 1 :: st) h := Ex_nx rfl rfl
theorem rL_law_709 (Q : Po) (h : Hp) (ls : List Value) (st : List Value) (x y : Int32) : Ex mL_law Q 709 ls (.int y :: .int x :: st) h = Ex mL_law Q 710 ls (.int (x + y) :: st) h := Ex_nx rfl rfl
theorem rL_law_710 (Q : Po) (h : Hp) (ls : List Value) (st : List Value) (a : Nat) (i : Int32) : Ex mL_law Q 710 ls (.int i :: .ref a :: st) h = ((gK h a = 58 ∧ ¬ (i < 0 ∨ gL h a ≤ i.toNatClampNeg)) ∧ Ex mL_law Q 711 ls (.int (gI h a i.toNatClampNeg) :: st) h) := Ex_gd rfl rfl
theorem rL_law_711 (Q : Po) (h : Hp) (l1 l2 l3 : Value) (x : Nat) (st : List Value) : Ex mL_law Q 711 [.ref x, l1, l2, l3] st h = Ex mL_law Q 712 [.ref x, l1, l2, l3] (.ref x :: st) h := Ex_nx rfl rfl
theorem rL_law_712 (Q : Po) (h : Hp) (l0 l1 l2 : Value) (x : Int32) (st : List Value) : Ex mL_law Q 712 [l0, l1, l2, .int x] st h = Ex mL_law Q 713 [l0, l1, l2, .int x] (.int x :: st) h := Ex_nx rfl rfl
theorem rL_law_713 (Q : Po) (h : Hp) (ls : List Value) (st : List Value) : Ex mL_law Q 713 ls st h = Ex mL_law Q 714 ls (.int 2 :: st) h := Ex_nx rfl rfl
theorem rL_law_714 (Q : Po) (h : Hp) (ls : List Value) (st : List Value) (x y : Int32) : Ex mL_law Q 714 ls (.int y :: .int x :: st) h = Ex mL_law Q 715 ls (.int (x + y) :: st) h := Ex_nx rfl rfl
theorem rL_law_715 (Q : Po) (h : Hp) (ls : List Value) (st : List Value) (a : Nat) (i : Int32) : Ex mL_law Q 715 ls (.int i :: .ref a :: st) h = ((gK h a = 58 ∧ ¬ (i < 0 ∨ gL h a ≤ i.toNatClampNeg)) ∧ Ex mL_law Q 716 ls (.int (gI h a i.toNatClampNeg) :: st) h) := Ex_gd rfl rfl
theorem rL_law_716 (Q : Po) (h : Hp) (l1 l2 l3 : Value) (x : Nat) (st : List Value) : Ex mL_law Q 716 [.ref x, l1, l2, l3] st h = Ex mL_law Q 717 [.ref x, l1, l2, l3] (.ref x :: st) h := Ex_nx rfl rfl
theorem rL_law_717 (Q : Po) (h : Hp) (l0 l1 l2 : Value) (x : Int32) (st : List Value) : Ex mL_law Q 717 [l0, l1, l2, .int x] st h = Ex mL_law Q 718 [l0, l1, l2, .int x] (.int x :: st) h := Ex_nx rfl rfl
theorem rL_law_718 (Q : Po) (h : Hp) (ls : List Value) (st : List Value) : Ex mL_law Q 718 ls st h = Ex mL_law Q 719 ls (.int 3 :: st) h := Ex_nx rfl rfl
theorem rL_law_719 (Q : Po) (h : Hp) (ls : List Value) (st : List Value) (x y : Int32) : Ex mL_law Q 719 ls (.int y :: .int x :: st) h = Ex mL_law Q 720 ls (.int (x + y) :: st) h := Ex_nx rfl rfl
theorem rL_law_720 (Q : Po) (h : Hp) (ls : List Value) (st : List Value) (a : Nat) (i : Int32) : Ex mL_law Q 720 ls (.int i :: .ref a :: st) h = ((gK h a = 58 ∧ ¬ (i < 0 ∨ gL h a ≤ i.toNatClampNeg)) ∧ Ex mL_law Q 721 ls (.int (gI h a i.toNatClampNeg) :: st) h) := Ex_gd rfl rfl
theorem rL_law_721 (Q : Po) (h : Hp) (ls : List Value) (a0 : Int32) (a1 : Int32) (a2 : Int32) (b : Nat) : Ex mL_law Q 721 ls (.int a2 :: .int a1 :: .int a0 :: .ref b :: []) h = (gK h b = 1 ∧ Ex mX0_ahead (Cont mL_law Q 721 ls 724 []) 0 [.ref b, .int a0, .int a1, .int a2] [] h) := Ex_cg (n := 4) (as := [.ref b, .int a0, .int a1, .int a2]) rfl rfl
theorem rL_law_724 (Q : Po) (h : Hp) (l0 l1 l3 : Value) (x : Nat) (st : List Value) : Ex mL_law Q 724 [l0, l1, .ref x, l3] st h = Ex mL_law Q 725 [l0, l1, .ref x, l3] (.ref x :: st) h := Ex_nx rfl rfl
theorem rL_law_725 (Q : Po) (h : Hp) (l1 l2 l3 : Value) (x : Nat) (st : List Value) : Ex mL_law Q 725 [.ref x, l1, l2, l3] st h = Ex mL_law Q 726 [.ref x, l1, l2, l3] (.ref x :: st) h := Ex_nx rfl rfl
theorem rL_law_726 (Q : Po) (h : Hp) (l0 l1 l2 : Value) (x : Int32) (st : List Value) : Ex mL_law Q 726 [l0, l1, l2, .int x] st h = Ex mL_law Q 727 [l0, l1, l2, .int x] (.int x :: st) h := Ex_nx rfl rfl
theorem rL_law_727 (Q : Po) (h : Hp) (ls : List Value) (st : List Value) : Ex mL_law Q 727 ls st h = Ex mL_law Q 728 ls (.int 1 :: st) h := Ex_nx rfl rfl
theorem rL_law_728 (Q : Po) (h : Hp) (ls : List Value) (st : List Value) (x y : Int32) : Ex mL_law Q 728 ls (.int y :: .int x :: st) h = Ex mL_law Q 729 ls (.int (x + y) :: st) h := Ex_nx rfl rfl
theorem rL_law_729 (Q : Po) (h : Hp) (ls : List Value) (st : List Value) (a : Nat) (i : Int32) : Ex mL_law Q 729 ls (.int i :: .ref a :: st) h = ((gK h a = 58 ∧ ¬ (i < 0 ∨ gL h a ≤ i.toNatClampNeg)) ∧ Ex mL_law Q 730 ls (.int (gI h a i.toNatClampNeg) :: st) h) := Ex_gd rfl rfl
theorem rL_law_730 (Q : Po) (h : Hp) (l1 l2 l3 : Value) (x : Nat) (st : List Value) : Ex mL_law Q 730 [.ref x, l1, l2, l3] st h = Ex mL_law Q 731 [.ref x, l1, l2, l3] (.ref x :: st) h := Ex_nx rfl rfl
theorem rL_law_731 (Q : Po) (h : Hp) (l0 l1 l2 : Value) (x : Int32) (st : List Value) : Ex mL_law Q 731 [l0, l1, l2, .int x] st h = Ex mL_law Q 732 [l0, l1, l2, .int x] (.int x :: st) h := Ex_nx rfl rfl
theorem rL_law_732 (Q : Po) (h : Hp) (ls : List Value) (st : List Value) : Ex mL_law Q 732 ls st h = Ex mL_law Q 733 ls (.int 2 :: st) h := Ex_nx rfl rfl
theorem rL_law_733 (Q : Po) (h : Hp) (ls : List Value) (st : List Value) (x y : Int32) : Ex mL_law Q 733 ls (.int y :: .int x :: st) h = Ex mL_law Q 734 ls (.int (x + y) :: st) h := Ex_nx rfl rfl
theorem rL_law_734 (Q : Po) (h : Hp) (ls : List Value) (st : List Value) (a : Nat) (i : Int32) : Ex mL_law Q 734 ls (.int i :: .ref a :: st) h = ((gK h a = 58 ∧ ¬ (i < 0 ∨ gL h a ≤ i.toNatClampNeg)) ∧ Ex mL_law Q 735 ls (.int (gI h a i.toNatClampNeg) :: st) h) := Ex_gd rfl rfl
theorem rL_law_735 (Q : Po) (h : Hp) (l1 l2 l3 : Value) (x : Nat) (st : List Value) : Ex mL_law Q 735 [.ref x, l1, l2, l3] st h = Ex mL_law Q 736 [.ref x, l1, l2, l3] (.ref x :: st) h := Ex_nx rfl rfl
theorem rL_law_736 (Q : Po) (h : Hp) (l0 l1 l2 : Value) (x : Int32) (st : List Value) : Ex mL_law Q 736 [l0, l1, l2, .int x] st h = Ex mL_law Q 737 [l0, l1, l2, .int x] (.int x :: st) h := Ex_nx rfl rfl
theorem rL_law_737 (Q : Po) (h : Hp) (ls : List Value) (st : List Value) : Ex mL_law Q 737 ls st h = Ex mL_law Q 738 ls (.int 3 :: st) h := Ex_nx rfl rfl
theorem rL_law_738 (Q : Po) (h : Hp) (ls : List Value) (st : List Value) (x y : Int32) : Ex mL_law Q 738 ls (.int y :: .int x :: st) h = Ex mL_law Q 739 ls (.int (x + y) :: st) h := Ex_nx rfl rfl
theorem rL_law_739 (Q : Po) (h : Hp) (ls : List Value) (st : List Value) (a : Nat) (i : Int32) : Ex mL_law Q 739 ls (.int i :: .ref a :: st) h = ((gK h a = 58 ∧ ¬ (i < 0 ∨ gL h a ≤ i.toNatClampNeg)) ∧ Ex mL_law Q 740 ls (.int (gI h a i.toNatClampNeg) :: st) h) := Ex_gd rfl rfl
theorem rL_law_740 (Q : Po) (h : Hp) (ls : List Value) (a0 : Int32) (a1 : Int32) (a2 : Int32) (s0 : Value) (b : Nat) : Ex mL_law Q 740 ls (.int a2 :: .int a1 :: .int a0 :: .ref b :: [s0]) h = (gK h b = 9 ∧ Ex mX9_ahead (Cont mL_law Q 740 ls 743 [s0]) 0 [.ref b, .int a0, .int a1, .int a2, .retAddr 0] [] h) := Ex_cg (n := 5) (as := [.ref b, .int a0, .int a1, .int a2]) rfl rfl
theorem rL_law_743 (Q : Po) (h : Hp) (ls : List Value) (st : List Value) (x y : Int32) : Ex mL_law Q 743 ls (.int y :: .int x :: st) h = if x = y then Ex mL_law Q 1514 ls st h else Ex mL_law Q 746 ls st h := Ex_br rfl rfl
theorem rL_law_746 (Q : Po) (h : Hp) (ls : List Value) (st : List Value) : Ex mL_law Q 746 ls st h = Ex mL_law Q 747 ls (.int 0 :: st) h := Ex_nx rfl rfl
theorem rL_law_747 (Q : Po) (h : Hp) (ls : List Value) (x : Int32) : Ex mL_law Q 747 ls [.int x] h = ((x = 0 ∨ x = 1) ∧ Q (.inl (some (.int x))) h) := Ex_rg rfl rfl
theorem rL_law_748 (Q : Po) (h : Hp) (l0 l2 l3 : Value) (x : Nat) (st : List Value) : Ex mL_law Q 748 [l0, .ref x, l2, l3] st h = Ex mL_law Q 749 [l0, .ref x, l2, l3] (.ref x :: st) h := Ex_nx rfl rfl
theorem rL_law_749 (Q : Po) (h : Hp) (l1 l2 l3 : Value) (x : Nat) (st : List Value) : Ex mL_law Q 749 [.ref x, l1, l2, l3] st h = Ex mL_law Q 750 [.ref x, l1, l2, l3] (.ref x :: st) h := Ex_nx rfl rfl
theorem rL_law_750 (Q : Po) (h : Hp) (l0 l1 l2 : Value) (x : Int32) (st : List Value) : Ex mL_law Q 750 [l0, l1, l2, .int x] st h = Ex mL_law Q 751 [l0, l1, l2, .int x] (.int x :: st) h := Ex_nx rfl rfl
theorem rL_law_751 (Q : Po) (h : Hp) (ls : List Value) (st : List Value) : Ex mL_law Q 751 ls st h = Ex mL_law Q 752 ls (.int 1 :: st) h := Ex_nx rfl rfl
theorem rL_law_752 (Q : Po) (h : Hp) (ls : List Value) (st : List Value) (x y : Int32) : Ex mL_law Q 752 ls (.int y :: .int x :: st) h = Ex mL_law Q 753 ls (.int (x + y) :: st) h := Ex_nx rfl rfl
theorem rL_law_753 (Q : Po) (h : Hp) (ls : List Value) (st : List Value) (a : Nat) (i : Int32) : Ex mL_law Q 753 ls (.int i :: .ref a :: st) h = ((gK h a = 58 ∧ ¬ (i < 0 ∨ gL h a ≤ i.toNatClampNeg)) ∧ Ex mL_law Q 754 ls (.int (gI h a i.toNatClampNeg) :: st) h) := Ex_gd rfl rfl
theorem rL_law_754 (Q : Po) (h : Hp) (l1 l2 l3 : Value) (x : Nat) (st : List Value) : Ex mL_law Q 754 [.ref x, l1, l2, l3] st h = Ex mL_law Q 755 [.ref x, l1, l2, l3] (.ref x :: st) h := Ex_nx rfl rfl
theorem rL_law_755 (Q : Po) (h : Hp) (l0 l1 l2 : Value) (x : Int32) (st : List Value) : Ex mL_law Q 755 [l0, l1, l2, .int x] st h = Ex mL_law Q 756 [l0, l1, l2, .int x] (.int x :: st) h := Ex_nx rfl rfl
theorem rL_law_756 (Q : Po) (h : Hp) (ls : List Value) (st : List Value) : Ex mL_law Q 756 ls st h = Ex mL_law Q 757 ls (.int 2 :: st) h := Ex_nx rfl rfl
theorem rL_law_757 (Q : Po) (h : Hp) (ls : List Value) (st : List Value) (x y : Int32) : Ex mL_law Q 757 ls (.int y :: .int x :: st) h = Ex mL_law Q 758 ls (.int (x + y) :: st) h := Ex_nx rfl rfl
theorem rL_law_758 (Q : Po) (h : Hp) (ls : List Value) (st : List Value) (a : Nat) (i : Int32) : Ex mL_law Q 758 ls (.int i :: .ref a :: st) h = ((gK h a = 58 ∧ ¬ (i < 0 ∨ gL h a ≤ i.toNatClampNeg)) ∧ Ex mL_law Q 759 ls (.int (gI h a i.toNatClampNeg) :: st) h) := Ex_gd rfl rfl
theorem rL_law_759 (Q : Po) (h : Hp) (l1 l2 l3 : Value) (x : Nat) (st : List Value) : Ex mL_law Q 759 [.ref x, l1, l2, l3] st h = Ex mL_law Q 760 [.ref x, l1, l2, l3] (.ref x :: st) h := Ex_nx rfl rfl
theorem rL_law_760 (Q : Po) (h : Hp) (l0 l1 l2 : Value) (x : Int32) (st : List Value) : Ex mL_law Q 760 [l0, l1, l2, .int x] st h = Ex mL_law Q 761 [l0, l1, l2, .int x] (.int x :: st) h := Ex_nx rfl rfl
theorem rL_law_761 (Q : Po) (h : Hp) (ls : List Value) (st : List Value) : Ex mL_law Q 761 ls st h = Ex mL_law Q 762 ls (.int 3 :: st) h := Ex_nx rfl rfl
theorem rL_law_762 (Q : Po) (h : Hp) (ls : List Value) (st : List Value) (x y : Int32) : Ex mL_law Q 762 ls (.int y :: .int x :: st) h = Ex mL_law Q 763 ls (.int (x + y) :: st) h := Ex_nx rfl rfl
theorem rL_law_763 (Q : Po) (h : Hp) (ls : List Value) (st : List Value) (a : Nat) (i : Int32) : Ex mL_law Q 763 ls (.int i :: .ref a :: st) h = ((gK h a = 58 ∧ ¬ (i < 0 ∨ gL h a ≤ i.toNatClampNeg)) ∧ Ex mL_law Q 764 ls (.int (gI h a i.toNatClampNeg) :: st) h) := Ex_gd rfl rfl
theorem rL_law_764 (Q : Po) (h : Hp) (ls : List Value) (a0 : Int32) (a1 : Int32) (a2 : Int32) (b : Nat) : Ex mL_law Q 764 ls (.int a2 :: .int a1 :: .int a0 :: .ref b :: []) h = (gK h b = 1 ∧ Ex mX0_later (Cont mL_law Q 764 ls 767 []) 0 [.ref b, .int a0, .int a1, .int a2] [] h) := Ex_cg (n := 4) (as := [.ref b, .int a0, .int a1, .int a2]) rfl rfl
theorem rL_law_767 (Q : Po) (h : Hp) (l0 l1 l3 : Value) (x : Nat) (st : List Value) : Ex mL_law Q 767 [l0, l1, .ref x, l3] st h = Ex mL_law Q 768 [l0, l1, .ref x, l3] (.ref x :: st) h := Ex_nx rfl rfl
theorem rL_law_768 (Q : Po) (h : Hp) (l1 l2 l3 : Value) (x : Nat) (st : List Value) : Ex mL_law Q 768 [.ref x, l1, l2, l3] st h = Ex mL_law Q 769 [.ref x, l1, l2, l3] (.ref x :: st) h := Ex_nx rfl rfl
theorem rL_law_769 (Q : Po) (h : Hp) (l0 l1 l2 : Value) (x : Int32) (st : List Value) : Ex mL_law Q 769 [l0, l1, l2, .int x] st h = Ex mL_law Q 770 [l0, l1, l2, .int x] (.int x :: st) h := Ex_nx rfl rfl
theorem rL_law_770 (Q : Po) (h : Hp) (ls : List Value) (st : List Value) : Ex mL_law Q 770 ls st h = Ex mL_law Q 771 ls (.int 1 :: st) h := Ex_nx rfl rfl
theorem rL_law_771 (Q : Po) (h : Hp) (ls : List Value) (st : List Value) (x y : Int32) : Ex mL_law Q 771 ls (.int y :: .int x :: st) h = Ex mL_law Q 772 ls (.int (x + y) :: st) h := Ex_nx rfl rfl
theorem rL_law_772 (Q : Po) (h : Hp) (ls : List Value) (st : List Value) (a : Nat) (i : Int32) : Ex mL_law Q 772 ls (.int i :: .ref a :: st) h = ((gK h a = 58 ∧ ¬ (i < 0 ∨ gL h a ≤ i.toNatClampNeg)) ∧ Ex mL_law Q 773 ls (.int (gI h a i.toNatClampNeg) :: st) h) := Ex_gd rfl rfl
theorem rL_law_773 (Q : Po) (h : Hp) (l1 l2 l3 : Value) (x : Nat) (st : List Value) : Ex mL_law Q 773 [.ref x, l1, l2, l3] st h = Ex mL_law Q 774 [.ref x, l1, l2, l3] (.ref x :: st) h := Ex_nx rfl rfl
theorem rL_law_774 (Q : Po) (h : Hp) (l0 l1 l2 : Value) (x : Int32) (st : List Value) : Ex mL_law Q 774 [l0, l1, l2, .int x] st h = Ex mL_law Q 775 [l0, l1, l2, .int x] (.int x :: st) h := Ex_nx rfl rfl
theorem rL_law_775 (Q : Po) (h : Hp) (ls : List Value) (st : List Value) : Ex mL_law Q 775 ls st h = Ex mL_law Q 776 ls (.int 2 :: st) h := Ex_nx rfl rfl
theorem rL_law_776 (Q : Po) (h : Hp) (ls : List Value) (st : List Value) (x y : Int32) : Ex mL_law Q 776 ls (.int y :: .int x :: st) h = Ex mL_law Q 777 ls (.int (x + y) :: st) h := Ex_nx rfl rfl
theorem rL_law_777 (Q : Po) (h : Hp) (ls : List Value) (st : List Value) (a : Nat) (i : Int32) : Ex mL_law Q 777 ls (.int i :: .ref a :: st) h = ((gK h a = 58 ∧ ¬ (i < 0 ∨ gL h a ≤ i.toNatClampNeg)) ∧ Ex mL_law Q 778 ls (.int (gI h a i.toNatClampNeg) :: st) h) := Ex_gd rfl rfl
theorem rL_law_778 (Q : Po) (h : Hp) (l1 l2 l3 : Value) (x : Nat) (st : List Value) : Ex mL_law Q 778 [.ref x, l1, l2, l3] st h = Ex mL_law Q 779 [.ref x, l1, l2, l3] (.ref x :: st) h := Ex_nx rfl rfl
theorem rL_law_779 (Q : Po) (h : Hp) (l0 l1 l2 : Value) (x : Int32) (st : List Value) : Ex mL_law Q 779 [l0, l1, l2, .int x] st h = Ex mL_law Q 780 [l0, l1, l2, .int x] (.int x :: st) h := Ex_nx rfl rfl
theorem rL_law_780 (Q : Po) (h : Hp) (ls : List Value) (st : List Value) : Ex mL_law Q 780 ls st h = Ex mL_law Q 781 ls (.int 3 :: st) h := Ex_nx rfl rfl
theorem rL_law_781 (Q : Po) (h : Hp) (ls : List Value) (st : List Value) (x y : Int32) : Ex mL_law Q 781 ls (.int y :: .int x :: st) h = Ex mL_law Q 782 ls (.int (x + y) :: st) h := Ex_nx rfl rfl
theorem rL_law_782 (Q : Po) (h : Hp) (ls : List Value) (st : List Value) (a : Nat) (i : Int32) : Ex mL_law Q 782 ls (.int i :: .ref a :: st) h = ((gK h a = 58 ∧ ¬ (i < 0 ∨ gL h a ≤ i.toNatClampNeg)) ∧ Ex mL_law Q 783 ls (.int (gI h a i.toNatClampNeg) :: st) h) := Ex_gd rfl rfl
theorem rL_law_783 (Q : Po) (h : Hp) (ls : List Value) (a0 : Int32) (a1 : Int32) (a2 : Int32) (s0 : Value) (b : Nat) : Ex mL_law Q 783 ls (.int a2 :: .int a1 :: .int a0 :: .ref b :: [s0]) h = (gK h b = 9 ∧ Ex mX9_later (Cont mL_law Q 783 ls 786 [s0]) 0 [.ref b, .int a0, .int a1, .int a2, .retAddr 0] [] h) := Ex_cg (n := 5) (as := [.ref b, .int a0, .int a1, .int a2]) rfl rfl
theorem rL_law_786 (Q : Po) (h : Hp) (ls : List Value) (st : List Value) (x y : Int32) : Ex mL_law Q 786 ls (.int y :: .int x :: st) h = if x = y then Ex mL_law Q 1514 ls st h else Ex mL_law Q 789 ls st h := Ex_br rfl rfl
theorem rL_law_789 (Q : Po) (h : Hp) (ls : List Value) (st : List Value) : Ex mL_law Q 789 ls st h = Ex mL_law Q 790 ls (.int 0 :: st) h := Ex_nx rfl rfl
theorem rL_law_790 (Q : Po) (h : Hp) (ls : List Value) (x : Int32) : Ex mL_law Q 790 ls [.int x] h = ((x = 0 ∨ x = 1) ∧ Q (.inl (some (.int x))) h) := Ex_rg rfl rfl
theorem rL_law_791 (Q : Po) (h : Hp) (l0 l2 l3 : Value) (x : Nat) (st : List Value) : Ex mL_law Q 791 [l0, .ref x, l2, l3] st h = Ex mL_law Q 792 [l0, .ref x, l2, l3] (.ref x :: st) h := Ex_nx rfl rfl
theorem rL_law_792 (Q : Po) (h : Hp) (l1 l2 l3 : Value) (x : Nat) (st : List Value) : Ex mL_law Q 792 [.ref x, l1, l2, l3] st h = Ex mL_law Q 793 [.ref x, l1, l2, l3] (.ref x :: st) h := Ex_nx rfl rfl
theorem rL_law_793 (Q : Po) (h : Hp) (l0 l1 l2 : Value) (x : Int32) (st : List Value) : Ex mL_law Q 793 [l0, l1, l2, .int x] st h = Ex mL_law Q 794 [l0, l1, l2, .int x] (.int x :: st) h := Ex_nx rfl rfl
theorem rL_law_794 (Q : Po) (h : Hp) (ls : List Value) (st : List Value) : Ex mL_law Q 794 ls st h = Ex mL_law Q 795 ls (.int 1 :: st) h := Ex_nx rfl rfl
theorem rL_law_795 (Q : Po) (h : Hp) (ls : List Value) (st : List Value) (x y : Int32) : Ex mL_law Q 795 ls (.int y :: .int x :: st) h = Ex mL_law Q 796 ls (.int (x + y) :: st) h := Ex_nx rfl rfl
theorem rL_law_796 (Q : Po) (h : Hp) (ls : List Value) (st : List Value) (a : Nat) (i : Int32) : Ex mL_law Q 796 ls (.int i :: .ref a :: st) h = ((gK h a = 58 ∧ ¬ (i < 0 ∨ gL h a ≤ i.toNatClampNeg)) ∧ Ex mL_law Q 797 ls (.int (gI h a i.toNatClampNeg) :: st) h) := Ex_gd rfl rfl
theorem rL_law_797 (Q : Po) (h : Hp) (ls : List Value) (a0 : Int32) (b : Nat) : Ex mL_law Q 797 ls (.int a0 :: .ref b :: []) h = (gK h b = 1 ∧ Ex mX0_when (Cont mL_law Q 797 ls 800 []) 0 [.ref b, .int a0, .retAddr 0] [] h) := Ex_cg (n := 3) (as := [.ref b, .int a0]) rfl rfl
theorem rL_law_800 (Q : Po) (h : Hp) (l0 l1 l3 : Value) (x : Nat) (st : List Value) : Ex mL_law Q 800 [l0, l1, .ref x, l3] st h = Ex mL_law Q 801 [l0, l1, .ref x, l3] (.ref x :: st) h := Ex_nx rfl rfl
theorem rL_law_801 (Q : Po) (h : Hp) (l1 l2 l3 : Value) (x : Nat) (st : List Value) : Ex mL_law Q 801 [.ref x, l1, l2, l3] st h = Ex mL_law Q 802 [.ref x, l1, l2, l3] (.ref x :: st) h := Ex_nx rfl rfl
theorem rL_law_802 (Q : Po) (h : Hp) (l0 l1 l2 : Value) (x : Int32) (st : List Value) : Ex mL_law Q 802 [l0, l1, l2, .int x] st h = Ex mL_law Q 803 [l0, l1, l2, .int x] (.int x :: st) h := Ex_nx rfl rfl
theorem rL_law_803 (Q : Po) (h : Hp) (ls : List Value) (st : List Value) : Ex mL_law Q 803 ls st h = Ex mL_law Q 804 ls (.int 1 :: st) h := Ex_nx rfl rfl
theorem rL_law_804 (Q : Po) (h : Hp) (ls : List Value) (st : List Value) (x y : Int32) : Ex mL_law Q 804 ls (.int y :: .int x :: st) h = Ex mL_law Q 805 ls (.int (x + y) :: st) h := Ex_nx rfl rfl
theorem rL_law_805 (Q : Po) (h : Hp) (ls : List Value) (st : List Value) (a : Nat) (i : Int32) : Ex mL_law Q 805 ls (.int i :: .ref a :: st) h = ((gK h a = 58 ∧ ¬ (i < 0 ∨ gL h a ≤ i.toNatClampNeg)) ∧ Ex mL_law Q 806 ls (.int (gI h a i.toNatClampNeg) :: st) h) := Ex_gd rfl rfl
theorem rL_law_806 (Q : Po) (h : Hp) (ls : List Value) (a0 : Int32) (s0 : Value) (b : Nat) : Ex mL_law Q 806 ls (.int a0 :: .ref b :: [s0]) h = (gK h b = 9 ∧ Ex mX9_when (Cont mL_law Q 806 ls 809 [s0]) 0 [.ref b, .int a0, .retAddr 0, .retAddr 0] [] h) := Ex_cg (n := 4) (as := [.ref b, .int a0]) rfl rfl
theorem rL_law_809 (Q : Po) (h : Hp) (ls : List Value) (st : List Value) (x y : Int32) : Ex mL_law Q 809 ls (.int y :: .int x :: st) h = if x = y then Ex mL_law Q 1514 ls st h else Ex mL_law Q 812 ls st h := Ex_br rfl rfl
theorem rL_law_812 (Q : Po) (h : Hp) (ls : List Value) (st : List Value) : Ex mL_law Q 812 ls st h = Ex mL_law Q 813 ls (.int 0 :: st) h := Ex_nx rfl rfl
theorem rL_law_813 (Q : Po) (h : Hp) (ls : List Value) (x : Int32) : Ex mL_law Q 813 ls [.int x] h = ((x = 0 ∨ x = 1) ∧ Q (.inl (some (.int x))) h) := Ex_rg rfl rfl
theorem rL_law_814 (Q : Po) (h : Hp) (l0 l2 l3 : Value) (x : Nat) (st : List Value) : Ex mL_law Q 814 [l0, .ref x, l2, l3] st h = Ex mL_law Q 815 [l0, .ref x, l2, l3] (.ref x :: st) h := Ex_nx rfl rfl
theorem rL_law_815 (Q : Po) (h : Hp) (l1 l2 l3 : Value) (x : Nat) (st : List Value) : Ex mL_law Q 815 [.ref x, l1, l2, l3] st h = Ex mL_law Q 816 [.ref x, l1, l2, l3] (.ref x :: st) h := Ex_nx rfl rfl
theorem rL_law_816 (Q : Po) (h : Hp) (l0 l1 l2 : Value) (x : Int32) (st : List Value) : Ex mL_law Q 816 [l0, l1, l2, .int x] st h = Ex mL_law Q 817 [l0, l1, l2, .int x] (.int x :: st) h := Ex_nx rfl rfl
theorem rL_law_817 (Q : Po) (h : Hp) (ls : List Value) (st : List Value) : Ex mL_law Q 817 ls st h = Ex mL_law Q 818 ls (.int 1 :: st) h := Ex_nx rfl rfl
theorem rL_law_818 (Q : Po) (h : Hp) (ls : List Value) (st : List Value) (x y : Int32) : Ex mL_law Q 818 ls (.int y :: .int x :: st) h = Ex mL_law Q 819 ls (.int (x + y) :: st) h := Ex_nx rfl rfl
theorem rL_law_819 (Q : Po) (h : Hp) (ls : List Value) (st : List Value) (a : Nat) (i : Int32) : Ex mL_law Q 819 ls (.int i :: .ref a :: st) h = ((gK h a = 58 ∧ ¬ (i < 0 ∨ gL h a ≤ i.toNatClampNeg)) ∧ Ex mL_law Q 820 ls (.int (gI h a i.toNatClampNeg) :: st) h) := Ex_gd rfl rfl
theorem rL_law_820 (Q : Po) (h : Hp) (ls : List Value) (a0 : Int32) (b : Nat) : Ex mL_law Q 820 ls (.int a0 :: .ref b :: []) h = (gK h b = 1 ∧ Ex mX0_first (Cont mL_law Q 820 ls 823 []) 0 [.ref b, .int a0, .retAddr 0, .retAddr 0] [] h) := Ex_cg (n := 4) (as := [.ref b, .int a0]) rfl rfl
theorem rL_law_823 (Q : Po) (h : Hp) (l0 l1 l3 : Value) (x : Nat) (st : List Value) : Ex mL_law Q 823 [l0, l1, .ref x, l3] st h = Ex mL_law Q 824 [l0, l1, .ref x, l3] (.ref x :: st) h := Ex_nx rfl rfl
theorem rL_law_824 (Q : Po) (h : Hp) (l1 l2 l3 : Value) (x : Nat) (st : List Value) : Ex mL_law Q 824 [.ref x, l1, l2, l3] st h = Ex mL_law Q 825 [.ref x, l1, l2, l3] (.ref x :: st) h := Ex_nx rfl rfl
theorem rL_law_825 (Q : Po) (h : Hp) (l0 l1 l2 : Value) (x : Int32) (st : List Value) : Ex mL_law Q 825 [l0, l1, l2, .int x] st h = Ex mL_law Q 826 [l0, l1, l2, .int x] (.int x :: st) h := Ex_nx rfl rfl
theorem rL_law_826 (Q : Po) (h : Hp) (ls : List Value) (st : List Value) : Ex mL_law Q 826 ls st h = Ex mL_law Q 827 ls (.int 1 :: st) h := Ex_nx rfl rfl
theorem rL_law_827 (Q : Po) (h : Hp) (ls : List Value) (st : List Value) (x y : Int32) : Ex mL_law Q 827 ls (.int y :: .int x :: st) h = Ex mL_law Q 828 ls (.int (x + y) :: st) h := Ex_nx rfl rfl
theorem rL_law_828 (Q : Po) (h : Hp) (ls : List Value) (st : List Value) (a : Nat) (i : Int32) : Ex mL_law Q 828 ls (.int i :: .ref a :: st) h = ((gK h a = 58 ∧ ¬ (i < 0 ∨ gL h a ≤ i.toNatClampNeg)) ∧ Ex mL_law Q 829 ls (.int (gI h a i.toNatClampNeg) :: st) h) := Ex_gd rfl rfl
theorem rL_law_829 (Q : Po) (h : Hp) (ls : List Value) (a0 : Int32) (s0 : Value) (b : Nat) : Ex mL_law Q 829 ls (.int a0 :: .ref b :: [s0]) h = (gK h b = 9 ∧ Ex mX9_first (Cont mL_law Q 829 ls 832 [s0]) 0 [.ref b, .int a0, .retAddr 0, .retAddr 0, .retAddr 0] [] h) := Ex_cg (n := 5) (as := [.ref b, .int a0]) rfl rfl
theorem rL_law_832 (Q : Po) (h : Hp) (ls : List Value) (st : List Value) (x y : Int32) : Ex mL_law Q 832 ls (.int y :: .int x :: st) h = if x = y then Ex mL_law Q 1514 ls st h else Ex mL_law Q 835 ls st h := Ex_br rfl rfl
theorem rL_law_835 (Q : Po) (h : Hp) (ls : List Value) (st : List Value) : Ex mL_law Q 835 ls st h = Ex mL_law Q 836 ls (.int 0 :: st) h := Ex_nx rfl rfl
theorem rL_law_836 (Q : Po) (h : Hp) (ls : List Value) (x : Int32) : Ex mL_law Q 836 ls [.int x] h = ((x = 0 ∨ x = 1) ∧ Q (.inl (some (.int x))) h) := Ex_rg rfl rfl
theorem rL_law_837 (Q : Po) (h : Hp) (l0 l2 l3 : Value) (x : Nat) (st : List Value) : Ex mL_law Q 837 [l0, .ref x, l2, l3] st h = Ex mL_law Q 838 [l0, .ref x, l2, l3] (.ref x :: st) h := Ex_nx rfl rfl
theorem rL_law_838 (Q : Po) (h : Hp) (l1 l2 l3 : Value) (x : Nat) (st : List Value) : Ex mL_law Q 838 [.ref x, l1, l2, l3] st h = Ex mL_law Q 839 [.ref x, l1, l2, l3] (.ref x :: st) h := Ex_nx rfl rfl
theorem rL_law_839 (Q : Po) (h : Hp) (l0 l1 l2 : Value) (x : Int32) (st : List Value) : Ex mL_law Q 839 [l0, l1, l2, .int x] st h = Ex mL_law Q 840 [l0, l1, l2, .int x] (.int x :: st) h := Ex_nx rfl rfl
theorem rL_law_840 (Q : Po) (h : Hp) (ls : List Value) (st : List Value) : Ex mL_law Q 840 ls st h = Ex mL_law Q 841 ls (.int 1 :: st) h := Ex_nx rfl rfl
theorem rL_law_841 (Q : Po) (h : Hp) (ls : List Value) (st : List Value) (x y : Int32) : Ex mL_law Q 841 ls (.int y :: .int x :: st) h = Ex mL_law Q 842 ls (.int (x + y) :: st) h := Ex_nx rfl rfl
theorem rL_law_842 (Q : Po) (h : Hp) (ls : List Value) (st : List Value) (a : Nat) (i : Int32) : Ex mL_law Q 842 ls (.int i :: .ref a :: st) h = ((gK h a = 58 ∧ ¬ (i < 0 ∨ gL h a ≤ i.toNatClampNeg)) ∧ Ex mL_law Q 843 ls (.int (gI h a i.toNatClampNeg) :: st) h) := Ex_gd rfl rfl
theorem rL_law_843 (Q : Po) (h : Hp) (l1 l2 l3 : Value) (x : Nat) (st : List Value) : Ex mL_law Q 843 [.ref x, l1, l2, l3] st h = Ex mL_law Q 844 [.ref x, l1, l2, l3] (.ref x :: st) h := Ex_nx rfl rfl
theorem rL_law_844 (Q : Po) (h : Hp) (l0 l1 l2 : Value) (x : Int32) (st : List Value) : Ex mL_law Q 844 [l0, l1, l2, .int x] st h = Ex mL_law Q 845 [l0, l1, l2, .int x] (.int x :: st) h := Ex_nx rfl rfl
theorem rL_law_845 (Q : Po) (h : Hp) (ls : List Value) (st : List Value) : Ex mL_law Q 845 ls st h = Ex mL_law Q 846 ls (.int 2 :: st) h := Ex_nx rfl rfl
theorem rL_law_846 (Q : Po) (h : Hp) (ls : List Value) (st : List Value) (x y : Int32) : Ex mL_law Q 846 ls (.int y :: .int x :: st) h = Ex mL_law Q 847 ls (.int (x + y) :: st) h := Ex_nx rfl rfl
theorem rL_law_847 (Q : Po) (h : Hp) (ls : List Value) (st : List Value) (a : Nat) (i : Int32) : Ex mL_law Q 847 ls (.int i :: .ref a :: st) h = ((gK h a = 58 ∧ ¬ (i < 0 ∨ gL h a ≤ i.toNatClampNeg)) ∧ Ex mL_law Q 848 ls (.int (gI h a i.toNatClampNeg) :: st) h) := Ex_gd rfl rfl
theorem rL_law_848 (Q : Po) (h : Hp) (ls : List Value) (a0 : Int32) (a1 : Int32) (b : Nat) : Ex mL_law Q 848 ls (.int a1 :: .int a0 :: .ref b :: []) h = (gK h b = 1 ∧ Ex mX0_hole (Cont mL_law Q 848 ls 851 []) 0 [.ref b, .int a0, .int a1, .retAddr 0, .retAddr 0, .retAddr 0] [] h) := Ex_cg (n := 6) (as := [.ref b, .int a0, .int a1]) rfl rfl
theorem rL_law_851 (Q : Po) (h : Hp) (l0 l1 l3 : Value) (x : Nat) (st : List Value) : Ex mL_law Q 851 [l0, l1, .ref x, l3] st h = Ex mL_law Q 852 [l0, l1, .ref x, l3] (.ref x :: st) h := Ex_nx rfl rfl
theorem rL_law_852 (Q : Po) (h : Hp) (l1 l2 l3 : Value) (x : Nat) (st : List Value) : Ex mL_law Q 852 [.ref x, l1, l2, l3] st h = Ex mL_law Q 853 [.ref x, l1, l2, l3] (.ref x :: st) h := Ex_nx rfl rfl
theorem rL_law_853 (Q : Po) (h : Hp) (l0 l1 l2 : Value) (x : Int32) (st : List Value) : Ex mL_law Q 853 [l0, l1, l2, .int x] st h = Ex mL_law Q 854 [l0, l1, l2, .int x] (.int x :: st) h := Ex_nx rfl rfl
theorem rL_law_854 (Q : Po) (h : Hp) (ls : List Value) (st : List Value) : Ex mL_law Q 854 ls st h = Ex mL_law Q 855 ls (.int 1 :: st) h := Ex_nx rfl rfl
theorem rL_law_855 (Q : Po) (h : Hp) (ls : List Value) (st : List Value) (x y : Int32) : Ex mL_law Q 855 ls (.int y :: .int x :: st) h = Ex mL_law Q 856 ls (.int (x + y) :: st) h := Ex_nx rfl rfl
theorem rL_law_856 (Q : Po) (h : Hp) (ls : List Value) (st : List Value) (a : Nat) (i : Int32) : Ex mL_law Q 856 ls (.int i :: .ref a :: st) h = ((gK h a = 58 ∧ ¬ (i < 0 ∨ gL h a ≤ i.toNatClampNeg)) ∧ Ex mL_law Q 857 ls (.int (gI h a i.toNatClampNeg) :: st) h) := Ex_gd rfl rfl
theorem rL_law_857 (Q : Po) (h : Hp) (l1 l2 l3 : Value) (x : Nat) (st : List Value) : Ex mL_law Q 857 [.ref x, l1, l2, l3] st h = Ex mL_law Q 858 [.ref x, l1, l2, l3] (.ref x :: st) h := Ex_nx rfl rfl
theorem rL_law_858 (Q : Po) (h : Hp) (l0 l1 l2 : Value) (x : Int32) (st : List Value) : Ex mL_law Q 858 [l0, l1, l2, .int x] st h = Ex mL_law Q 859 [l0, l1, l2, .int x] (.int x :: st) h := Ex_nx rfl rfl
theorem rL_law_859 (Q : Po) (h : Hp) (ls : List Value) (st : List Value) : Ex mL_law Q 859 ls st h = Ex mL_law Q 860 ls (.int 2 :: st) h := Ex_nx rfl rfl
theorem rL_law_860 (Q : Po) (h : Hp) (ls : List Value) (st : List Value) (x y : Int32) : Ex mL_law Q 860 ls (.int y :: .int x :: st) h = Ex mL_law Q 861 ls (.int (x + y) :: st) h := Ex_nx rfl rfl
theorem rL_law_861 (Q : Po) (h : Hp) (ls : List Value) (st : List Value) (a : Nat) (i : Int32) : Ex mL_law Q 861 ls (.int i :: .ref a :: st) h = ((gK h a = 58 ∧ ¬ (i < 0 ∨ gL h a ≤ i.toNatClampNeg)) ∧ Ex mL_law Q 862 ls (.int (gI h a i.toNatClampNeg) :: st) h) := Ex_gd rfl rfl
theorem rL_law_862 (Q : Po) (h : Hp) (ls : List Value) (a0 : Int32) (a1 : Int32) (s0 : Value) (b : Nat) : Ex mL_law Q 862 ls (.int a1 :: .int a0 :: .ref b :: [s0]) h = (gK h b = 9 ∧ Ex mX9_hole (Cont mL_law Q 862 ls 865 [s0]) 0 [.ref b, .int a0, .int a1] [] h) := Ex_cg (n := 3) (as := [.ref b, .int a0, .int a1]) rfl rfl
theorem rL_law_865 (Q : Po) (h : Hp) (ls : List Value) (st : List Value) (x y : Int32) : Ex mL_law Q 865 ls (.int y :: .int x :: st) h = if x = y then Ex mL_law Q 1514 ls st h else Ex mL_law Q 868 ls st h := Ex_br rfl rfl
theorem rL_law_868 (Q : Po) (h : Hp) (ls : List Value) (st : List Value) : Ex mL_law Q 868 ls st h = Ex mL_law Q 869 ls (.int 0 :: st) h := Ex_nx rfl rfl
theorem rL_law_869 (Q : Po) (h : Hp) (ls : List Value) (x : Int32) : Ex mL_law Q 869 ls [.int x] h = ((x = 0 ∨ x = 1) ∧ Q (.inl (some (.int x))) h) := Ex_rg rfl rfl
theorem rL_law_870 (Q : Po) (h : Hp) (l0 l2 l3 : Value) (x : Nat) (st : List Value) : Ex mL_law Q 870 [l0, .ref x, l2, l3] st h = Ex mL_law Q 871 [l0, .ref x, l2, l3] (.ref x :: st) h := Ex_nx rfl rfl
theorem rL_law_871 (Q : Po) (h : Hp) (l1 l2 l3 : Value) (x : Nat) (st : List Value) : Ex mL_law Q 871 [.ref x, l1, l2, l3] st h = Ex mL_law Q 872 [.ref x, l1, l2, l3] (.ref x :: st) h := Ex_nx rfl rfl
theorem rL_law_872 (Q : Po) (h : Hp) (l0 l1 l2 : Value) (x : Int32) (st : List Value) : Ex mL_law Q 872 [l0, l1, l2, .int x] st h = Ex mL_law Q 873 [l0, l1, l2, .int x] (.int x :: st) h := Ex_nx rfl rfl
theorem rL_law_873 (Q : Po) (h : Hp) (ls : List Value) (st : List Value) : Ex mL_law Q 873 ls st h = Ex mL_law Q 874 ls (.int 1 :: st) h := Ex_nx rfl rfl
theorem rL_law_874 (Q : Po) (h : Hp) (ls : List Value) (st : List Value) (x y : Int32) : Ex mL_law Q 874 ls (.int y :: .int x :: st) h = Ex mL_law Q 875 ls (.int (x + y) :: st) h := Ex_nx rfl rfl
theorem rL_law_875 (Q : Po) (h : Hp) (ls : List Value) (st : List Value) (a : Nat) (i : Int32) : Ex mL_law Q 875 ls (.int i :: .ref a :: st) h = ((gK h a = 58 ∧ ¬ (i < 0 ∨ gL h a ≤ i.toNatClampNeg)) ∧ Ex mL_law Q 876 ls (.int (gI h a i.toNatClampNeg) :: st) h) := Ex_gd rfl rfl
theorem rL_law_876 (Q : Po) (h : Hp) (l1 l2 l3 : Value) (x : Nat) (st : List Value) : Ex mL_law Q 876 [.ref x, l1, l2, l3] st h = Ex mL_law Q 877 [.ref x, l1, l2, l3] (.ref x :: st) h := Ex_nx rfl rfl
theorem rL_law_877 (Q : Po) (h : Hp) (l0 l1 l2 : Value) (x : Int32) (st : List Value) : Ex mL_law Q 877 [l0, l1, l2, .int x] st h = Ex mL_law Q 878 [l0, l1, l2, .int x] (.int x :: st) h := Ex_nx rfl rfl
theorem rL_law_878 (Q : Po) (h : Hp) (ls : List Value) (st : List Value) : Ex mL_law Q 878 ls st h = Ex mL_law Q 879 ls (.int 2 :: st) h := Ex_nx rfl rfl
theorem rL_law_879 (Q : Po) (h : Hp) (ls : List Value) (st : List Value) (x y : Int32) : Ex mL_law Q 879 ls (.int y :: .int x :: st) h = Ex mL_law Q 880 ls (.int (x + y) :: st) h := Ex_nx rfl rfl
theorem rL_law_880 (Q : Po) (h : Hp) (ls : List Value) (st : List Value) (a : Nat) (i : Int32) : Ex mL_law Q 880 ls (.int i :: .ref a :: st) h = ((gK h a = 58 ∧ ¬ (i < 0 ∨ gL h a ≤ i.toNatClampNeg)) ∧ Ex mL_law Q 881 ls (.int (gI h a i.toNatClampNeg) :: st) h) := Ex_gd rfl rfl
theorem rL_law_881 (Q : Po) (h : Hp) (l1 l2 l3 : Value) (x : Nat) (st : List Value) : Ex mL_law Q 881 [.ref x, l1, l2, l3] st h = Ex mL_law Q 882 [.ref x, l1, l2, l3] (.ref x :: st) h := Ex_nx rfl rfl
theorem rL_law_882 (Q : Po) (h : Hp) (l0 l1 l2 : Value) (x : Int32) (st : List Value) : Ex mL_law Q 882 [l0, l1, l2, .int x] st h = Ex mL_law Q 883 [l0, l1, l2, .int x] (.int x :: st) h := Ex_nx rfl rfl
theorem rL_law_883 (Q : Po) (h : Hp) (ls : List Value) (st : List Value) : Ex mL_law Q 883 ls st h = Ex mL_law Q 884 ls (.int 3 :: st) h := Ex_nx rfl rfl
theorem rL_law_884 (Q : Po) (h : Hp) (ls : List Value) (st : List Value) (x y : Int32) : Ex mL_law Q 884 ls (.int y :: .int x :: st) h = Ex mL_law Q 885 ls (.int (x + y) :: st) h := Ex_nx rfl rfl
theorem rL_law_885 (Q : Po) (h : Hp) (ls : List Value) (st : List Value) (a : Nat) (i : Int32) : Ex mL_law Q 885 ls (.int i :: .ref a :: st) h = ((gK h a = 58 ∧ ¬ (i < 0 ∨ gL h a ≤ i.toNatClampNeg)) ∧ Ex mL_law Q 886 ls (.int (gI h a i.toNatClampNeg) :: st) h) := Ex_gd rfl rfl
theorem rL_law_886 (Q : Po) (h : Hp) (ls : List Value) (a0 : Int32) (a1 : Int32) (a2 : Int32) (b : Nat) : Ex mL_law Q 886 ls (.int a2 :: .int a1 :: .int a0 :: .ref b :: []) h = (gK h b = 1 ∧ Ex mX0_order (Cont mL_law Q 886 ls 889 []) 0 [.ref b, .int a0, .int a1, .int a2] [] h) := Ex_cg (n := 4) (as := [.ref b, .int a0, .int a1, .int a2]) rfl rfl
theorem rL_law_889 (Q : Po) (h : Hp) (l0 l1 l3 : Value) (x : Nat) (st : List Value) : Ex mL_law Q 889 [l0, l1, .ref x, l3] st h = Ex mL_law Q 890 [l0, l1, .ref x, l3] (.ref x :: st) h := Ex_nx rfl rfl
theorem rL_law_890 (Q : Po) (h : Hp) (l1 l2 l3 : Value) (x : Nat) (st : List Value) : Ex mL_law Q 890 [.ref x, l1, l2, l3] st h = Ex mL_law Q 891 [.ref x, l1, l2, l3] (.ref x :: st) h := Ex_nx rfl rfl
theorem rL_law_891 (Q : Po) (h : Hp) (l0 l1 l2 : Value) (x : Int32) (st : List Value) : Ex mL_law Q 891 [l0, l1, l2, .int x] st h = Ex mL_law Q 892 [l0, l1, l2, .int x] (.int x :: st) h := Ex_nx rfl rfl
theorem rL_law_892 (Q : Po) (h : Hp) (ls : List Value) (st : List Value) : Ex mL_law Q 892 ls st h = Ex mL_law Q 893 ls (.int 1 :: st) h := Ex_nx rfl rfl
theorem rL_law_893 (Q : Po) (h : Hp) (ls : List Value) (st : List Value) (x y : Int32) : Ex mL_law Q 893 ls (.int y :: .int x :: st) h = Ex mL_law Q 894 ls (.int (x + y) :: st) h := Ex_nx rfl rfl
theorem rL_law_894 (Q : Po) (h : Hp) (ls : List Value) (st : List Value) (a : Nat) (i : Int32) : Ex mL_law Q 894 ls (.int i :: .ref a :: st) h = ((gK h a = 58 ∧ ¬ (i < 0 ∨ gL h a ≤ i.toNatClampNeg)) ∧ Ex mL_law Q 895 ls (.int (gI h a i.toNatClampNeg) :: st) h) := Ex_gd rfl rfl
theorem rL_law_895 (Q : Po) (h : Hp) (l1 l2 l3 : Value) (x : Nat) (st : List Value) : Ex mL_law Q 895 [.ref x, l1, l2, l3] st h = Ex mL_law Q 896 [.ref x, l1, l2, l3] (.ref x :: st) h := Ex_nx rfl rfl
theorem rL_law_896 (Q : Po) (h : Hp) (l0 l1 l2 : Value) (x : Int32) (st : List Value) : Ex mL_law Q 896 [l0, l1, l2, .int x] st h = Ex mL_law Q 897 [l0, l1, l2, .int x] (.int x :: st) h := Ex_nx rfl rfl
theorem rL_law_897 (Q : Po) (h : Hp) (ls : List Value) (st : List Value) : Ex mL_law Q 897 ls st h = Ex mL_law Q 898 ls (.int 2 :: st) h := Ex_nx rfl rfl
theorem rL_law_898 (Q : Po) (h : Hp) (ls : List Value) (st : List Value) (x y : Int32) : Ex mL_law Q 898 ls (.int y :: .int x :: st) h = Ex mL_law Q 899 ls (.int (x + y) :: st) h := Ex_nx rfl rfl
theorem rL_law_899 (Q : Po) (h : Hp) (ls : List Value) (st : List Value) (a : Nat) (i : Int32) : Ex mL_law Q 899 ls (.int i :: .ref a :: st) h = ((gK h a = 58 ∧ ¬ (i < 0 ∨ gL h a ≤ i.toNatClampNeg)) ∧ Ex mL_law Q 900 ls (.int (gI h a i.toNatClampNeg) :: st) h) := Ex_gd rfl rfl
theorem rL_law_900 (Q : Po) (h : Hp) (l1 l2 l3 : Value) (x : Nat) (st : List Value) : Ex mL_law Q 900 [.ref x, l1, l2, l3] st h = Ex mL_law Q 901 [.ref x, l1, l2, l3] (.ref x :: st) h := Ex_nx rfl rfl
theorem rL_law_901 (Q : Po) (h : Hp) (l0 l1 l2 : Value) (x : Int32) (st : List Value) : Ex mL_law Q 901 [l0, l1, l2, .int x] st h = Ex mL_law Q 902 [l0, l1, l2, .int x] (.int x :: st) h := Ex_nx rfl rfl
theorem rL_law_902 (Q : Po) (h : Hp) (ls : List Value) (st : List Value) : Ex mL_law Q 902 ls st h = Ex mL_law Q 903 ls (.int 3 :: st) h := Ex_nx rfl rfl
theorem rL_law_903 (Q : Po) (h : Hp) (ls : List Value) (st : List Value) (x y : Int32) : Ex mL_law Q 903 ls (.int y :: .int x :: st) h = Ex mL_law Q 904 ls (.int (x + y) :: st) h := Ex_nx rfl rfl
theorem rL_law_904 (Q : Po) (h : Hp) (ls : List Value) (st : List Value) (a : Nat) (i : Int32) : Ex mL_law Q 904 ls (.int i :: .ref a :: st) h = ((gK h a = 58 ∧ ¬ (i < 0 ∨ gL h a ≤ i.toNatClampNeg)) ∧ Ex mL_law Q 905 ls (.int (gI h a i.toNatClampNeg) :: st) h) := Ex_gd rfl rfl
theorem rL_law_905 (Q : Po) (h : Hp) (ls : List Value) (a0 : Int32) (a1 : Int32) (a2 : Int32) (s0 : Value) (b : Nat) : Ex mL_law Q 905 ls (.int a2 :: .int a1 :: .int a0 :: .ref b :: [s0]) h = (gK h b = 9 ∧ Ex mX9_order (Cont mL_law Q 905 ls 908 [s0]) 0 [.ref b, .int a0, .int a1, .int a2, .retAddr 0, .retAddr 0, .retAddr 0, .retAddr 0] [] h) := Ex_cg (n := 8) (as := [.ref b, .int a0, .int a1, .int a2]) rfl rfl
theorem rL_law_908 (Q : Po) (h : Hp) (ls : List Value) (st : List Value) (x y : Int32) : Ex mL_law Q 908 ls (.int y :: .int x :: st) h = if x = y then Ex mL_law Q 1514 ls st h else Ex mL_law Q 911 ls st h := Ex_br rfl rfl
theorem rL_law_911 (Q : Po) (h : Hp) (ls : List Value) (st : List Value) : Ex mL_law Q 911 ls st h = Ex mL_law Q 912 ls (.int 0 :: st) h := Ex_nx rfl rfl
theorem rL_law_912 (Q : Po) (h : Hp) (ls : List Value) (x : Int32) : Ex mL_law Q 912 ls [.int x] h = ((x = 0 ∨ x = 1) ∧ Q (.inl (some (.int x))) h) := Ex_rg rfl rfl
theorem rL_law_913 (Q : Po) (h : Hp) (l0 l2 l3 : Value) (x : Nat) (st : List Value) : Ex mL_law Q 913 [l0, .ref x, l2, l3] st h = Ex mL_law Q 914 [l0, .ref x, l2, l3] (.ref x :: st) h := Ex_nx rfl rfl
theorem rL_law_914 (Q : Po) (h : Hp) (l1 l2 l3 : Value) (x : Nat) (st : List Value) : Ex mL_law Q 914 [.ref x, l1, l2, l3] st h = Ex mL_law Q 915 [.ref x, l1, l2, l3] (.ref x :: st) h := Ex_nx rfl rfl
theorem rL_law_915 (Q : Po) (h : Hp) (l0 l1 l2 : Value) (x : Int32) (st : List Value) : Ex mL_law Q 915 [l0, l1, l2, .int x] st h = Ex mL_law Q 916 [l0, l1, l2, .int x] (.int x :: st) h := Ex_nx rfl rfl
theorem rL_law_916 (Q : Po) (h : Hp) (ls : List Value) (st : List Value) : Ex mL_law Q 916 ls st h = Ex mL_law Q 917 ls (.int 1 :: st) h := Ex_nx rfl rfl
theorem rL_law_917 (Q : Po) (h : Hp) (ls : List Value) (st : List Value) (x y : Int32) : Ex mL_law Q 917 ls (.int y :: .int x :: st) h = Ex mL_law Q 918 ls (.int (x + y) :: st) h := Ex_nx rfl rfl
theorem rL_law_918 (Q : Po) (h : Hp) (ls : List Value) (st : List Value) (a : Nat) (i : Int32) : Ex mL_law Q 918 ls (.int i :: .ref a :: st) h = ((gK h a = 58 ∧ ¬ (i < 0 ∨ gL h a ≤ i.toNatClampNeg)) ∧ Ex mL_law Q 919 ls (.int (gI h a i.toNatClampNeg) :: st) h) := Ex_gd rfl rfl
theorem rL_law_919 (Q : Po) (h : Hp) (l1 l2 l3 : Value) (x : Nat) (st : List Value) : Ex mL_law Q 919 [.ref x, l1, l2, l3] st h = Ex mL_law Q 920 [.ref x, l1, l2, l3] (.ref x :: st) h := Ex_nx rfl rfl
theorem rL_law_920 (Q : Po) (h : Hp) (l0 l1 l2 : Value) (x : Int32) (st : List Value) : Ex mL_law Q 920 [l0, l1, l2, .int x] st h = Ex mL_law Q 921 [l0, l1, l2, .int x] (.int x :: st) h := Ex_nx rfl rfl
theorem rL_law_921 (Q : Po) (h : Hp) (ls : List Value) (st : List Value) : Ex mL_law Q 921 ls st h = Ex mL_law Q 922 ls (.int 2 :: st) h := Ex_nx rfl rfl
theorem rL_law_922 (Q : Po) (h : Hp) (ls : List Value) (st : List Value) (x y : Int32) : Ex mL_law Q 922 ls (.int y :: .int x :: st) h = Ex mL_law Q 923 ls (.int (x + y) :: st) h := Ex_nx rfl rfl
theorem rL_law_923 (Q : Po) (h : Hp) (ls : List Value) (st : List Value) (a : Nat) (i : Int32) : Ex mL_law Q 923 ls (.int i :: .ref a :: st) h = ((gK h a = 58 ∧ ¬ (i < 0 ∨ gL h a ≤ i.toNatClampNeg)) ∧ Ex mL_law Q 924 ls (.int (gI h a i.toNatClampNeg) :: st) h) := Ex_gd rfl rfl
theorem rL_law_924 (Q : Po) (h : Hp) (l1 l2 l3 : Value) (x : Nat) (st : List Value) : Ex mL_law Q 924 [.ref x, l1, l2, l3] st h = Ex mL_law Q 925 [.ref x, l1, l2, l3] (.ref x :: st) h := Ex_nx rfl rfl
theorem rL_law_925 (Q : Po) (h : Hp) (l0 l1 l2 : Value) (x : Int32) (st : List Value) : Ex mL_law Q 925 [l0, l1, l2, .int x] st h = Ex mL_law Q 926 [l0, l1, l2, .int x] (.int x :: st) h := Ex_nx rfl rfl
theorem rL_law_926 (Q : Po) (h : Hp) (ls : List Value) (st : List Value) : Ex mL_law Q 926 ls st h = Ex mL_law Q 927 ls (.int 3 :: st) h := Ex_nx rfl rfl
theorem rL_law_927 (Q : Po) (h : Hp) (ls : List Value) (st : List Value) (x y : Int32) : Ex mL_law Q 927 ls (.int y :: .int x :: st) h = Ex mL_law Q 928 ls (.int (x + y) :: st) h := Ex_nx rfl rfl
theorem rL_law_928 (Q : Po) (h : Hp) (ls : List Value) (st : List Value) (a : Nat) (i : Int32) : Ex mL_law Q 928 ls (.int i :: .ref a :: st) h = ((gK h a = 58 ∧ ¬ (i < 0 ∨ gL h a ≤ i.toNatClampNeg)) ∧ Ex mL_law Q 929 ls (.int (gI h a i.toNatClampNeg) :: st) h) := Ex_gd rfl rfl
theorem rL_law_929 (Q : Po) (h : Hp) (ls : List Value) (a0 : Int32) (a1 : Int32) (a2 : Int32) (b : Nat) : Ex mL_law Q 929 ls (.int a2 :: .int a1 :: .int a0 :: .ref b :: []) h = (gK h b = 1 ∧ Ex mX0_lamp (Cont mL_law Q 929 ls 932 []) 0 [.ref b, .int a0, .int a1, .int a2, .retAddr 0, .retAddr 0, .retAddr 0, .retAddr 0] [] h) := Ex_cg (n := 8) (as := [.ref b, .int a0, .int a1, .int a2]) rfl rfl
theorem rL_law_932 (Q : Po) (h : Hp) (l0 l1 l3 : Value) (x : Nat) (st : List Value) : Ex mL_law Q 932 [l0, l1, .ref x, l3] st h = Ex mL_law Q 933 [l0, l1, .ref x, l3] (.ref x :: st) h := Ex_nx rfl rfl
theorem rL_law_933 (Q : Po) (h : Hp) (l1 l2 l3 : Value) (x : Nat) (st : List Value) : Ex mL_law Q 933 [.ref x, l1, l2, l3] st h = Ex mL_law Q 934 [.ref x, l1, l2, l3] (.ref x :: st) h := Ex_nx rfl rfl
theorem rL_law_934 (Q : Po) (h : Hp) (l0 l1 l2 : Value) (x : Int32) (st : List Value) : Ex mL_law Q 934 [l0, l1, l2, .int x] st h = Ex mL_law Q 935 [l0, l1, l2, .int x] (.int x :: st) h := Ex_nx rfl rfl
theorem rL_law_935 (Q : Po) (h : Hp) (ls : List Value) (st : List Value) : Ex mL_law Q 935 ls st h = Ex mL_law Q 936 ls (.int 1 :: st) h := Ex_nx rfl rfl
theorem rL_law_936 (Q : Po) (h : Hp) (ls : List Value) (st : List Value) (x y : Int32) : Ex mL_law Q 936 ls (.int y :: .int x :: st) h = Ex mL_law Q 937 ls (.int (x + y) :: st) h := Ex_nx rfl rfl
theorem rL_law_937 (Q : Po) (h : Hp) (ls : List Value) (st : List Value) (a : Nat) (i : Int32) : Ex mL_law Q 937 ls (.int i :: .ref a :: st) h = ((gK h a = 58 ∧ ¬ (i < 0 ∨ gL h a ≤ i.toNatClampNeg)) ∧ Ex mL_law Q 938 ls (.int (gI h a i.toNatClampNeg) :: st) h) := Ex_gd rfl rfl
theorem rL_law_938 (Q : Po) (h : Hp) (l1 l2 l3 : Value) (x : Nat) (st : List Value) : Ex mL_law Q 938 [.ref x, l1, l2, l3] st h = Ex mL_law Q 939 [.ref x, l1, l2, l3] (.ref x :: st) h := Ex_nx rfl rfl
theorem rL_law_939 (Q : Po) (h : Hp) (l0 l1 l2 : Value) (x : Int32) (st : List Value) : Ex mL_law Q 939 [l0, l1, l2, .int x] st h = Ex mL_law Q 940 [l0, l1, l2, .int x] (.int x :: st) h := Ex_nx rfl rfl
theorem rL_law_940 (Q : Po) (h : Hp) (ls : List Value) (st : List Value) : Ex mL_law Q 940 ls st h = Ex mL_law Q 941 ls (.int 2 :: st) h := Ex_nx rfl rfl
theorem rL_law_941 (Q : Po) (h : Hp) (ls : List Value) (st : List Value) (x y : Int32) : Ex mL_law Q 941 ls (.int y :: .int x :: st) h = Ex mL_law Q 942 ls (.int (x + y) :: st) h := Ex_nx rfl rfl
theorem rL_law_942 (Q : Po) (h : Hp) (ls : List Value) (st : List Value) (a : Nat) (i : Int32) : Ex mL_law Q 942 ls (.int i :: .ref a :: st) h = ((gK h a = 58 ∧ ¬ (i < 0 ∨ gL h a ≤ i.toNatClampNeg)) ∧ Ex mL_law Q 943 ls (.int (gI h a i.toNatClampNeg) :: st) h) := Ex_gd rfl rfl
theorem rL_law_943 (Q : Po) (h : Hp) (l1 l2 l3 : Value) (x : Nat) (st : List Value) : Ex mL_law Q 943 [.ref x, l1, l2, l3] st h = Ex mL_law Q 944 [.ref x, l1, l2, l3] (.ref x :: st) h := Ex_nx rfl rfl
theorem rL_law_944 (Q : Po) (h : Hp) (l0 l1 l2 : Value) (x : Int32) (st : List Value) : Ex mL_law Q 944 [l0, l1, l2, .int x] st h = Ex mL_law Q 945 [l0, l1, l2, .int x] (.int x :: st) h := Ex_nx rfl rfl
theorem rL_law_945 (Q : Po) (h : Hp) (ls : List Value) (st : List Value) : Ex mL_law Q 945 ls st h = Ex mL_law Q 946 ls (.int 3 :: st) h := Ex_nx rfl rfl
theorem rL_law_946 (Q : Po) (h : Hp) (ls : List Value) (st : List Value) (x y : Int32) : Ex mL_law Q 946 ls (.int y :: .int x :: st) h = Ex mL_law Q 947 ls (.int (x + y) :: st) h := Ex_nx rfl rfl
theorem rL_law_947 (Q : Po) (h : Hp) (ls : List Value) (st : List Value) (a : Nat) (i : Int32) : Ex mL_law Q 947 ls (.int i :: .ref a :: st) h = ((gK h a = 58 ∧ ¬ (i < 0 ∨ gL h a ≤ i.toNatClampNeg)) ∧ Ex mL_law Q 948 ls (.int (gI h a i.toNatClampNeg) :: st) h) := Ex_gd rfl rfl
theorem rL_law_948 (Q : Po) (h : Hp) (ls : List Value) (a0 : Int32) (a1 : Int32) (a2 : Int32) (s0 : Value) (b : Nat) : Ex mL_law Q 948 ls (.int a2 :: .int a1 :: .int a0 :: .ref b :: [s0]) h = (gK h b = 9 ∧ Ex mX9_lamp (Cont mL_law Q 948 ls 951 [s0]) 0 [.ref b, .int a0, .int a1, .int a2, .retAddr 0, .retAddr 0, .retAddr 0, .retAddr 0] [] h) := Ex_cg (n := 8) (as := [.ref b, .int a0, .int a1, .int a2]) rfl rfl
theorem rL_law_951 (Q : Po) (h : Hp) (ls : List Value) (st : List Value) (x y : Int32) : Ex mL_law Q 951 ls (.int y :: .int x :: st) h = if x = y then Ex mL_law Q 1514 ls st h else Ex mL_law Q 954 ls st h := Ex_br rfl rfl
theorem rL_law_954 (Q : Po) (h : Hp) (ls : List Value) (st : List Value) : Ex mL_law Q 954 ls st h = Ex mL_law Q 955 ls (.int 0 :: st) h := Ex_nx rfl rfl
theorem rL_law_955 (Q : Po) (h : Hp) (ls : List Value) (x : Int32) : Ex mL_law Q 955 ls [.int x] h = ((x = 0 ∨ x = 1) ∧ Q (.inl (some (.int x))) h) := Ex_rg rfl rfl
theorem rL_law_956 (Q : Po) (h : Hp) (l0 l2 l3 : Value) (x : Nat) (st : List Value) : Ex mL_law Q 956 [l0, .ref x, l2, l3] st h = Ex mL_law Q 957 [l0, .ref x, l2, l3] (.ref x :: st) h := Ex_nx rfl rfl
theorem rL_law_957 (Q : Po) (h : Hp) (l1 l2 l3 : Value) (x : Nat) (st : List Value) : Ex mL_law Q 957 [.ref x, l1, l2, l3] st h = Ex mL_law Q 958 [.ref x, l1, l2, l3] (.ref x :: st) h := Ex_nx rfl rfl
theorem rL_law_958 (Q : Po) (h : Hp) (l0 l1 l2 : Value) (x : Int32) (st : List Value) : Ex mL_law Q 958 [l0, l1, l2, .int x] st h = Ex mL_law Q 959 [l0, l1, l2, .int x] (.int x :: st) h := Ex_nx rfl rfl
theorem rL_law_959 (Q : Po) (h : Hp) (ls : List Value) (st : List Value) : Ex mL_law Q 959 ls st h = Ex mL_law Q 960 ls (.int 1 :: st) h := Ex_nx rfl rfl
theorem rL_law_960 (Q : Po) (h : Hp) (ls : List Value) (st : List Value) (x y : Int32) : Ex mL_law Q 960 ls (.int y :: .int x :: st) h = Ex mL_law Q 961 ls (.int (x + y) :: st) h := Ex_nx rfl rfl
theorem rL_law_961 (Q : Po) (h : Hp) (ls : List Value) (st : List Value) (a : Nat) (i : Int32) : Ex mL_law Q 961 ls (.int i :: .ref a :: st) h = ((gK h a = 58 ∧ ¬ (i < 0 ∨ gL h a ≤ i.toNatClampNeg)) ∧ Ex mL_law Q 962 ls (.int (gI h a i.toNatClampNeg) :: st) h) := Ex_gd rfl rfl
theorem rL_law_962 (Q : Po) (h : Hp) (l1 l2 l3 : Value) (x : Nat) (st : List Value) : Ex mL_law Q 962 [.ref x, l1, l2, l3] st h = Ex mL_law Q 963 [.ref x, l1, l2, l3] (.ref x :: st) h := Ex_nx rfl rfl
theorem rL_law_963 (Q : Po) (h : Hp) (l0 l1 l2 : Value) (x : Int32) (st : List Value) : Ex mL_law Q 963 [l0, l1, l2, .int x] st h = Ex mL_law Q 964 [l0, l1, l2, .int x] (.int x :: st) h := Ex_nx rfl rfl
theorem rL_law_964 (Q : Po) (h : Hp) (ls : List Value) (st : List Value) : Ex mL_law Q 964 ls st h = Ex mL_law Q 965 ls (.int 2 :: st) h := Ex_nx rfl rfl
theorem rL_law_965 (Q : Po) (h : Hp) (ls : List Value) (st : List Value) (x y : Int32) : Ex mL_law Q 965 ls (.int y :: .int x :: st) h = Ex mL_law Q 966 ls (.int (x + y) :: st) h := Ex_nx rfl rfl
theorem rL_law_966 (Q : Po) (h : Hp) (ls : List Value) (st : List Value) (a : Nat) (i : Int32) : Ex mL_law Q 966 ls (.int i :: .ref a :: st) h = ((gK h a = 58 ∧ ¬ (i < 0 ∨ gL h a ≤ i.toNatClampNeg)) ∧ Ex mL_law Q 967 ls (.int (gI h a i.toNatClampNeg) :: st) h) := Ex_gd rfl rfl
theorem rL_law_967 (Q : Po) (h : Hp) (l1 l2 l3 : Value) (x : Nat) (st : List Value) : Ex mL_law Q 967 [.ref x, l1, l2, l3] st h = Ex mL_law Q 968 [.ref x, l1, l2, l3] (.ref x :: st) h := Ex_nx rfl rfl
theorem rL_law_968 (Q : Po) (h : Hp) (l0 l1 l2 : Value) (x : Int32) (st : List Value) : Ex mL_law Q 968 [l0, l1, l2, .int x] st h = Ex mL_law Q 969 [l0, l1, l2, .int x] (.int x :: st) h := Ex_nx rfl rfl
theorem rL_law_969 (Q : Po) (h : Hp) (ls : List Value) (st : List Value) : Ex mL_law Q 969 ls st h = Ex mL_law Q 970 ls (.int 3 :: st) h := Ex_nx rfl rfl
theorem rL_law_970 (Q : Po) (h : Hp) (ls : List Value) (st : List Value) (x y : Int32) : Ex mL_law Q 970 ls (.int y :: .int x :: st) h = Ex mL_law Q 971 ls (.int (x + y) :: st) h := Ex_nx rfl rfl
theorem rL_law_971 (Q : Po) (h : Hp) (ls : List Value) (st : List Value) (a : Nat) (i : Int32) : Ex mL_law Q 971 ls (.int i :: .ref a :: st) h = ((gK h a = 58 ∧ ¬ (i < 0 ∨ gL h a ≤ i.toNatClampNeg)) ∧ Ex mL_law Q 972 ls (.int (gI h a i.toNatClampNeg) :: st) h) := Ex_gd rfl rfl
theorem rL_law_972 (Q : Po) (h : Hp) (ls : List Value) (a0 : Int32) (a1 : Int32) (a2 : Int32) (b : Nat) : Ex mL_law Q 972 ls (.int a2 :: .int a1 :: .int a0 :: .ref b :: []) h = (gK h b = 1 ∧ Ex mX0_caught (Cont mL_law Q 972 ls 975 []) 0 [.ref b, .int a0, .int a1, .int a2, .retAddr 0, .retAddr 0] [] h) := Ex_cg (n := 6) (as := [.ref b, .int a0, .int a1, .int a2]) rfl rfl
theorem rL_law_975 (Q : Po) (h : Hp) (l0 l1 l3 : Value) (x : Nat) (st : List Value) : Ex mL_law Q 975 [l0, l1, .ref x, l3] st h = Ex mL_law Q 976 [l0, l1, .ref x, l3] (.ref x :: st) h := Ex_nx rfl rfl
theorem rL_law_976 (Q : Po) (h : Hp) (l1 l2 l3 : Value) (x : Nat) (st : List Value) : Ex mL_law Q 976 [.ref x, l1, l2, l3] st h = Ex mL_law Q 977 [.ref x, l1, l2, l3] (.ref x :: st) h := Ex_nx rfl rfl
theorem rL_law_977 (Q : Po) (h : Hp) (l0 l1 l2 : Value) (x : Int32) (st : List Value) : Ex mL_law Q 977 [l0, l1, l2, .int x] st h = Ex mL_law Q 978 [l0, l1, l2, .int x] (.int x :: st) h := Ex_nx rfl rfl
theorem rL_law_978 (Q : Po) (h : Hp) (ls : List Value) (st : List Value) : Ex mL_law Q 978 ls st h = Ex mL_law Q 979 ls (.int 1 :: st) h := Ex_nx rfl rfl
theorem rL_law_979 (Q : Po) (h : Hp) (ls : List Value) (st : List Value) (x y : Int32) : Ex mL_law Q 979 ls (.int y :: .int x :: st) h = Ex mL_law Q 980 ls (.int (x + y) :: st) h := Ex_nx rfl rfl
theorem rL_law_980 (Q : Po) (h : Hp) (ls : List Value) (st : List Value) (a : Nat) (i : Int32) : Ex mL_law Q 980 ls (.int i :: .ref a :: st) h = ((gK h a = 58 ∧ ¬ (i < 0 ∨ gL h a ≤ i.toNatClampNeg)) ∧ Ex mL_law Q 981 ls (.int (gI h a i.toNatClampNeg) :: st) h) := Ex_gd rfl rfl
theorem rL_law_981 (Q : Po) (h : Hp) (l1 l2 l3 : Value) (x : Nat) (st : List Value) : Ex mL_law Q 981 [.ref x, l1, l2, l3] st h = Ex mL_law Q 982 [.ref x, l1, l2, l3] (.ref x :: st) h := Ex_nx rfl rfl
theorem rL_law_982 (Q : Po) (h : Hp) (l0 l1 l2 : Value) (x : Int32) (st : List Value) : Ex mL_law Q 982 [l0, l1, l2, .int x] st h = Ex mL_law Q 983 [l0, l1, l2, .int x] (.int x :: st) h := Ex_nx rfl rfl
theorem rL_law_983 (Q : Po) (h : Hp) (ls : List Value) (st : List Value) : Ex mL_law Q 983 ls st h = Ex mL_law Q 984 ls (.int 2 :: st) h := Ex_nx rfl rfl
theorem rL_law_984 (Q : Po) (h : Hp) (ls : List Value) (st : List Value) (x y : Int32) : Ex mL_law Q 984 ls (.int y :: .int x :: st) h = Ex mL_law Q 985 ls (.int (x + y) :: st) h := Ex_nx rfl rfl
theorem rL_law_985 (Q : Po) (h : Hp) (ls : List Value) (st : List Value) (a : Nat) (i : Int32) : Ex mL_law Q 985 ls (.int i :: .ref a :: st) h = ((gK h a = 58 ∧ ¬ (i < 0 ∨ gL h a ≤ i.toNatClampNeg)) ∧ Ex mL_law Q 986 ls (.int (gI h a i.toNatClampNeg) :: st) h) := Ex_gd rfl rfl
theorem rL_law_986 (Q : Po) (h : Hp) (l1 l2 l3 : Value) (x : Nat) (st : List Value) : Ex mL_law Q 986 [.ref x, l1, l2, l3] st h = Ex mL_law Q 987 [.ref x, l1, l2, l3] (.ref x :: st) h := Ex_nx rfl rfl
theorem rL_law_987 (Q : Po) (h : Hp) (l0 l1 l2 : Value) (x : Int32) (st : List Value) : Ex mL_law Q 987 [l0, l1, l2, .int x] st h = Ex mL_law Q 988 [l0, l1, l2, .int x] (.int x :: st) h := Ex_nx rfl rfl
theorem rL_law_988 (Q : Po) (h : Hp) (ls : List Value) (st : List Value) : Ex mL_law Q 988 ls st h = Ex mL_law Q 989 ls (.int 3 :: st) h := Ex_nx rfl rfl
theorem rL_law_989 (Q : Po) (h : Hp) (ls : List Value) (st : List Value) (x y : Int32) : Ex mL_law Q 989 ls (.int y :: .int x :: st) h = Ex mL_law Q 990 ls (.int (x + y) :: st) h := Ex_nx rfl rfl
theorem rL_law_990 (Q : Po) (h : Hp) (ls : List Value) (st : List Value) (a : Nat) (i : Int32) : Ex mL_law Q 990 ls (.int i :: .ref a :: st) h = ((gK h a = 58 ∧ ¬ (i < 0 ∨ gL h a ≤ i.toNatClampNeg)) ∧ Ex mL_law Q 991 ls (.int (gI h a i.toNatClampNeg) :: st) h) := Ex_gd rfl rfl
theorem rL_law_991 (Q : Po) (h : Hp) (ls : List Value) (a0 : Int32) (a1 : Int32) (a2 : Int32) (s0 : Value) (b : Nat) : Ex mL_law Q 991 ls (.int a2 :: .int a1 :: .int a0 :: .ref b :: [s0]) h = (gK h b = 9 ∧ Ex mX9_caught (Cont mL_law Q 991 ls 994 [s0]) 0 [.ref b, .int a0, .int a1, .int a2, .retAddr 0, .retAddr 0] [] h) := Ex_cg (n := 6) (as := [.ref b, .int a0, .int a1, .int a2]) rfl rfl
theorem rL_law_994 (Q : Po) (h : Hp) (ls : List Value) (st : List Value) (x y : Int32) : Ex mL_law Q 994 ls (.int y :: .int x :: st) h = if x = y then Ex mL_law Q 1514 ls st h else Ex mL_law Q 997 ls st h := Ex_br rfl rfl
theorem rL_law_997 (Q : Po) (h : Hp) (ls : List Value) (st : List Value) : Ex mL_law Q 997 ls st h = Ex mL_law Q 998 ls (.int 0 :: st) h := Ex_nx rfl rfl
theorem rL_law_998 (Q : Po) (h : Hp) (ls : List Value) (x : Int32) : Ex mL_law Q 998 ls [.int x] h = ((x = 0 ∨ x = 1) ∧ Q (.inl (some (.int x))) h) := Ex_rg rfl rfl
theorem rL_law_999 (Q : Po) (h : Hp) (l0 l2 l3 : Value) (x : Nat) (st : List Value) : Ex mL_law Q 999 [l0, .ref x, l2, l3] st h = Ex mL_law Q 1000 [l0, .ref x, l2, l3] (.ref x :: st) h := Ex_nx rfl rfl
theorem rL_law_1000 (Q : Po) (h : Hp) (l1 l2 l3 : Value) (x : Nat) (st : List Value) : Ex mL_law Q 1000 [.ref x, l1, l2, l3] st h = Ex mL_law Q 1001 [.ref x, l1, l2, l3] (.ref x :: st) h := Ex_nx rfl rfl
theorem rL_law_1001 (Q : Po) (h : Hp) (l0 l1 l2 : Value) (x : Int32) (st : List Value) : Ex mL_law Q 1001 [l0, l1, l2, .int x] st h = Ex mL_law Q 1002 [l0, l1, l2, .int x] (.int x :: st) h := Ex_nx rfl rfl
theorem rL_law_1002 (Q : Po) (h : Hp) (ls : List Value) (st : List Value) : Ex mL_law Q 1002 ls st h = Ex mL_law Q 1003 ls (.int 1 :: st) h := Ex_nx rfl rfl
theorem rL_law_1003 (Q : Po) (h : Hp) (ls : List Value) (st : List Value) (x y : Int32) : Ex mL_law Q 1003 ls (.int y :: .int x :: st) h = Ex mL_law Q 1004 ls (.int (x + y) :: st) h := Ex_nx rfl rfl
theorem rL_law_1004 (Q : Po) (h : Hp) (ls : List Value) (st : List Value) (a : Nat) (i : Int32) : Ex mL_law Q 1004 ls (.int i :: .ref a :: st) h = ((gK h a = 58 ∧ ¬ (i < 0 ∨ gL h a ≤ i.toNatClampNeg)) ∧ Ex mL_law Q 1005 ls (.int (gI h a i.toNatClampNeg) :: st) h) := Ex_gd rfl rfl
theorem rL_law_1005 (Q : Po) (h : Hp) (l1 l2 l3 : Value) (x : Nat) (st : List Value) : Ex mL_law Q 1005 [.ref x, l1, l2, l3] st h = Ex mL_law Q 1006 [.ref x, l1, l2, l3] (.ref x :: st) h := Ex_nx rfl rfl
theorem rL_law_1006 (Q : Po) (h : Hp) (l0 l1 l2 : Value) (x : Int32) (st : List Value) : Ex mL_law Q 1006 [l0, l1, l2, .int x] st h = Ex mL_law Q 1007 [l0, l1, l2, .int x] (.int x :: st) h := Ex_nx rfl rfl
theorem rL_law_1007 (Q : Po) (h : Hp) (ls : List Value) (st : List Value) : Ex mL_law Q 1007 ls st h = Ex mL_law Q 1008 ls (.int 2 :: st) h := Ex_nx rfl rfl
theorem rL_law_1008 (Q : Po) (h : Hp) (ls : List Value) (st : List Value) (x y : Int32) : Ex mL_law Q 1008 ls (.int y :: .int x :: st) h = Ex mL_law Q 1009 ls (.int (x + y) :: st) h := Ex_nx rfl rfl
theorem rL_law_1009 (Q : Po) (h : Hp) (ls : List Value) (st : List Value) (a : Nat) (i : Int32) : Ex mL_law Q 1009 ls (.int i :: .ref a :: st) h = ((gK h a = 58 ∧ ¬ (i < 0 ∨ gL h a ≤ i.toNatClampNeg)) ∧ Ex mL_law Q 1010 ls (.int (gI h a i.toNatClampNeg) :: st) h) := Ex_gd rfl rfl
theorem rL_law_1010 (Q : Po) (h : Hp) (ls : List Value) (a0 : Int32) (a1 : Int32) (b : Nat) : Ex mL_law Q 1010 ls (.int a1 :: .int a0 :: .ref b :: []) h = (gK h b = 1 ∧ Ex mX0_grams (Cont mL_law Q 1010 ls 1013 []) 0 [.ref b, .int a0, .int a1, .retAddr 0, .retAddr 0, .retAddr 0, .retAddr 0] [] h) := Ex_cg (n := 7) (as := [.ref b, .int a0, .int a1]) rfl rfl
theorem rL_law_1013 (Q : Po) (h : Hp) (l0 l1 l3 : Value) (x : Nat) (st : List Value) : Ex mL_law Q 1013 [l0, l1, .ref x, l3] st h = Ex mL_law Q 1014 [l0, l1, .ref x, l3] (.ref x :: st) h := Ex_nx rfl rfl
theorem rL_law_1014 (Q : Po) (h : Hp) (l1 l2 l3 : Value) (x : Nat) (st : List Value) : Ex mL_law Q 1014 [.ref x, l1, l2, l3] st h = Ex mL_law Q 1015 [.ref x, l1, l2, l3] (.ref x :: st) h := Ex_nx rfl rfl
theorem rL_law_1015 (Q : Po) (h : Hp) (l0 l1 l2 : Value) (x : Int32) (st : List Value) : Ex mL_law Q 1015 [l0, l1, l2, .int x] st h = Ex mL_law Q 1016 [l0, l1, l2, .int x] (.int x :: st) h := Ex_nx rfl rfl
theorem rL_law_1016 (Q : Po) (h : Hp) (ls : List Value) (st : List Value) : Ex mL_law Q 1016 ls st h = Ex mL_law Q 1017 ls (.int 1 :: st) h := Ex_nx rfl rfl
theorem rL_law_1017 (Q : Po) (h : Hp) (ls : List Value) (st : List Value) (x y : Int32) : Ex mL_law Q 1017 ls (.int y :: .int x :: st) h = Ex mL_law Q 1018 ls (.int (x + y) :: st) h := Ex_nx rfl rfl
theorem rL_law_1018 (Q : Po) (h : Hp) (ls : List Value) (st : List Value) (a : Nat) (i : Int32) : Ex mL_law Q 1018 ls (.int i :: .ref a :: st) h = ((gK h a = 58 ∧ ¬ (i < 0 ∨ gL h a ≤ i.toNatClampNeg)) ∧ Ex mL_law Q 1019 ls (.int (gI h a i.toNatClampNeg) :: st) h) := Ex_gd rfl rfl
theorem rL_law_1019 (Q : Po) (h : Hp) (l1 l2 l3 : Value) (x : Nat) (st : List Value) : Ex mL_law Q 1019 [.ref x, l1, l2, l3] st h = Ex mL_law Q 1020 [.ref x, l1, l2, l3] (.ref x :: st) h := Ex_nx rfl rfl
theorem rL_law_1020 (Q : Po) (h : Hp) (l0 l1 l2 : Value) (x : Int32) (st : List Value) : Ex mL_law Q 1020 [l0, l1, l2, .int x] st h = Ex mL_law Q 1021 [l0, l1, l2, .int x] (.int x :: st) h := Ex_nx rfl rfl
theorem rL_law_1021 (Q : Po) (h : Hp) (ls : List Value) (st : List Value) : Ex mL_law Q 1021 ls st h = Ex mL_law Q 1022 ls (.int 2 :: st) h := Ex_nx rfl rfl
theorem rL_law_1022 (Q : Po) (h : Hp) (ls : List Value) (st : List Value) (x y : Int32) : Ex mL_law Q 1022 ls (.int y :: .int x :: st) h = Ex mL_law Q 1023 ls (.int (x + y) :: st) h := Ex_nx rfl rfl
theorem rL_law_1023 (Q : Po) (h : Hp) (ls : List Value) (st : List Value) (a : Nat) (i : Int32) : Ex mL_law Q 1023 ls (.int i :: .ref a :: st) h = ((gK h a = 58 ∧ ¬ (i < 0 ∨ gL h a ≤ i.toNatClampNeg)) ∧ Ex mL_law Q 1024 ls (.int (gI h a i.toNatClampNeg) :: st) h) := Ex_gd rfl rfl
theorem rL_law_1024 (Q : Po) (h : Hp) (ls : List Value) (a0 : Int32) (a1 : Int32) (s0 : Value) (b : Nat) : Ex mL_law Q 1024 ls (.int a1 :: .int a0 :: .ref b :: [s0]) h = (gK h b = 9 ∧ Ex mX9_grams (Cont mL_law Q 1024 ls 1027 [s0]) 0 [.ref b, .int a0, .int a1, .retAddr 0, .retAddr 0, .retAddr 0, .retAddr 0] [] h) := Ex_cg (n := 7) (as := [.ref b, .int a0, .int a1]) rfl rfl
theorem rL_law_1027 (Q : Po) (h : Hp) (ls : List Value) (st : List Value) (x y : Int32) : Ex mL_law Q 1027 ls (.int y :: .int x :: st) h = if x = y then Ex mL_law Q 1514 ls st h else Ex mL_law Q 1030 ls st h := Ex_br rfl rfl
theorem rL_law_1030 (Q : Po) (h : Hp) (ls : List Value) (st : List Value) : Ex mL_law Q 1030 ls st h = Ex mL_law Q 1031 ls (.int 0 :: st) h := Ex_nx rfl rfl
theorem rL_law_1031 (Q : Po) (h : Hp) (ls : List Value) (x : Int32) : Ex mL_law Q 1031 ls [.int x] h = ((x = 0 ∨ x = 1) ∧ Q (.inl (some (.int x))) h) := Ex_rg rfl rfl
theorem rL_law_1032 (Q : Po) (h : Hp) (l0 l2 l3 : Value) (x : Nat) (st : List Value) : Ex mL_law Q 1032 [l0, .ref x, l2, l3] st h = Ex mL_law Q 1033 [l0, .ref x, l2, l3] (.ref x :: st) h := Ex_nx rfl rfl
theorem rL_law_1033 (Q : Po) (h : Hp) (l1 l2 l3 : Value) (x : Nat) (st : List Value) : Ex mL_law Q 1033 [.ref x, l1, l2, l3] st h = Ex mL_law Q 1034 [.ref x, l1, l2, l3] (.ref x :: st) h := Ex_nx rfl rfl
theorem rL_law_1034 (Q : Po) (h : Hp) (l0 l1 l2 : Value) (x : Int32) (st : List Value) : Ex mL_law Q 1034 [l0, l1, l2, .int x] st h = Ex mL_law Q 1035 [l0, l1, l2, .int x] (.int x :: st) h := Ex_nx rfl rfl
theorem rL_law_1035 (Q : Po) (h : Hp) (ls : List Value) (st : List Value) : Ex mL_law Q 1035 ls st h = Ex mL_law Q 1036 ls (.int 1 :: st) h := Ex_nx rfl rfl
theorem rL_law_1036 (Q : Po) (h : Hp) (ls : List Value) (st : List Value) (x y : Int32) : Ex mL_law Q 1036 ls (.int y :: .int x :: st) h = Ex mL_law Q 1037 ls (.int (x + y) :: st) h := Ex_nx rfl rfl
theorem rL_law_1037 (Q : Po) (h : Hp) (ls : List Value) (st : List Value) (a : Nat) (i : Int32) : Ex mL_law Q 1037 ls (.int i :: .ref a :: st) h = ((gK h a = 58 ∧ ¬ (i < 0 ∨ gL h a ≤ i.toNatClampNeg)) ∧ Ex mL_law Q 1038 ls (.int (gI h a i.toNatClampNeg) :: st) h) := Ex_gd rfl rfl
theorem rL_law_1038 (Q : Po) (h : Hp) (l1 l2 l3 : Value) (x : Nat) (st : List Value) : Ex mL_law Q 1038 [.ref x, l1, l2, l3] st h = Ex mL_law Q 1039 [.ref x, l1, l2, l3] (.ref x :: st) h := Ex_nx rfl rfl
theorem rL_law_1039 (Q : Po) (h : Hp) (l0 l1 l2 : Value) (x : Int32) (st : List Value) : Ex mL_law Q 1039 [l0, l1, l2, .int x] st h = Ex mL_law Q 1040 [l0, l1, l2, .int x] (.int x :: st) h := Ex_nx rfl rfl
theorem rL_law_1040 (Q : Po) (h : Hp) (ls : List Value) (st : List Value) : Ex mL_law Q 1040 ls st h = Ex mL_law Q 1041 ls (.int 2 :: st) h := Ex_nx rfl rfl
theorem rL_law_1041 (Q : Po) (h : Hp) (ls : List Value) (st : List Value) (x y : Int32) : Ex mL_law Q 1041 ls (.int y :: .int x :: st) h = Ex mL_law Q 1042 ls (.int (x + y) :: st) h := Ex_nx rfl rfl
theorem rL_law_1042 (Q : Po) (h : Hp) (ls : List Value) (st : List Value) (a : Nat) (i : Int32) : Ex mL_law Q 1042 ls (.int i :: .ref a :: st) h = ((gK h a = 58 ∧ ¬ (i < 0 ∨ gL h a ≤ i.toNatClampNeg)) ∧ Ex mL_law Q 1043 ls (.int (gI h a i.toNatClampNeg) :: st) h) := Ex_gd rfl rfl
theorem rL_law_1043 (Q : Po) (h : Hp) (l1 l2 l3 : Value) (x : Nat) (st : List Value) : Ex mL_law Q 1043 [.ref x, l1, l2, l3] st h = Ex mL_law Q 1044 [.ref x, l1, l2, l3] (.ref x :: st) h := Ex_nx rfl rfl
theorem rL_law_1044 (Q : Po) (h : Hp) (l0 l1 l2 : Value) (x : Int32) (st : List Value) : Ex mL_law Q 1044 [l0, l1, l2, .int x] st h = Ex mL_law Q 1045 [l0, l1, l2, .int x] (.int x :: st) h := Ex_nx rfl rfl
theorem rL_law_1045 (Q : Po) (h : Hp) (ls : List Value) (st : List Value) : Ex mL_law Q 1045 ls st h = Ex mL_law Q 1046 ls (.int 3 :: st) h := Ex_nx rfl rfl
theorem rL_law_1046 (Q : Po) (h : Hp) (ls : List Value) (st : List Value) (x y : Int32) : Ex mL_law Q 1046 ls (.int y :: .int x :: st) h = Ex mL_law Q 1047 ls (.int (x + y) :: st) h := Ex_nx rfl rfl
theorem rL_law_1047 (Q : Po) (h : Hp) (ls : List Value) (st : List Value) (a : Nat) (i : Int32) : Ex mL_law Q 1047 ls (.int i :: .ref a :: st) h = ((gK h a = 58 ∧ ¬ (i < 0 ∨ gL h a ≤ i.toNatClampNeg)) ∧ Ex mL_law Q 1048 ls (.int (gI h a i.toNatClampNeg) :: st) h) := Ex_gd rfl rfl
theorem rL_law_1048 (Q : Po) (h : Hp) (l1 l2 l3 : Value) (x : Nat) (st : List Value) : Ex mL_law Q 1048 [.ref x, l1, l2, l3] st h = Ex mL_law Q 1049 [.ref x, l1, l2, l3] (.ref x :: st) h := Ex_nx rfl rfl
theorem rL_law_1049 (Q : Po) (h : Hp) (l0 l1 l2 : Value) (x : Int32) (st : List Value) : Ex mL_law Q 1049 [l0, l1, l2, .int x] st h = Ex mL_law Q 1050 [l0, l1, l2, .int x] (.int x :: st) h := Ex_nx rfl rfl
theorem rL_law_1050 (Q : Po) (h : Hp) (ls : List Value) (st : List Value) : Ex mL_law Q 1050 ls st h = Ex mL_law Q 1051 ls (.int 4 :: st) h := Ex_nx rfl rfl
theorem rL_law_1051 (Q : Po) (h : Hp) (ls : List Value) (st : List Value) (x y : Int32) : Ex mL_law Q 1051 ls (.int y :: .int x :: st) h = Ex mL_law Q 1052 ls (.int (x + y) :: st) h := Ex_nx rfl rfl
theorem rL_law_1052 (Q : Po) (h : Hp) (ls : List Value) (st : List Value) (a : Nat) (i : Int32) : Ex mL_law Q 1052 ls (.int i :: .ref a :: st) h = ((gK h a = 58 ∧ ¬ (i < 0 ∨ gL h a ≤ i.toNatClampNeg)) ∧ Ex mL_law Q 1053 ls (.int (gI h a i.toNatClampNeg) :: st) h) := Ex_gd rfl rfl
theorem rL_law_1053 (Q : Po) (h : Hp) (l1 l2 l3 : Value) (x : Nat) (st : List Value) : Ex mL_law Q 1053 [.ref x, l1, l2, l3] st h = Ex mL_law Q 1054 [.ref x, l1, l2, l3] (.ref x :: st) h := Ex_nx rfl rfl
theorem rL_law_1054 (Q : Po) (h : Hp) (l0 l1 l2 : Value) (x : Int32) (st : List Value) : Ex mL_law Q 1054 [l0, l1, l2, .int x] st h = Ex mL_law Q 1055 [l0, l1, l2, .int x] (.int x :: st) h := Ex_nx rfl rfl
theorem rL_law_1055 (Q : Po) (h : Hp) (ls : List Value) (st : List Value) : Ex mL_law Q 1055 ls st h = Ex mL_law Q 1056 ls (.int 5 :: st) h := Ex_nx rfl rfl
theorem rL_law_1056 (Q : Po) (h : Hp) (ls : List Value) (st : List Value) (x y : Int32) : Ex mL_law Q 1056 ls (.int y :: .int x :: st) h = Ex mL_law Q 1057 ls (.int (x + y) :: st) h := Ex_nx rfl rfl
theorem rL_law_1057 (Q : Po) (h : Hp) (ls : List Value) (st : List Value) (a : Nat) (i : Int32) : Ex mL_law Q 1057 ls (.int i :: .ref a :: st) h = ((gK h a = 58 ∧ ¬ (i < 0 ∨ gL h a ≤ i.toNatClampNeg)) ∧ Ex mL_law Q 1058 ls (.int (gI h a i.toNatClampNeg) :: st) h) := Ex_gd rfl rfl
theorem rL_law_1058 (Q : Po) (h : Hp) (l1 l2 l3 : Value) (x : Nat) (st : List Value) : Ex mL_law Q 1058 [.ref x, l1, l2, l3] st h = Ex mL_law Q 1059 [.ref x, l1, l2, l3] (.ref x :: st) h := Ex_nx rfl rfl
theorem rL_law_1059 (Q : Po) (h : Hp) (l0 l1 l2 : Value) (x : Int32) (st : List Value) : Ex mL_law Q 1059 [l0, l1, l2, .int x] st h = Ex mL_law Q 1060 [l0, l1, l2, .int x] (.int x :: st) h := Ex_nx rfl rfl
theorem rL_law_1060 (Q : Po) (h : Hp) (ls : List Value) (st : List Value) : Ex mL_law Q 1060 ls st h = Ex mL_law Q 1062 ls (.int 6 :: st) h := Ex_nx rfl rfl
theorem rL_law_1062 (Q : Po) (h : Hp) (ls : List Value) (st : List Value) (x y : Int32) : Ex mL_law Q 1062 ls (.int y :: .int x :: st) h = Ex mL_law Q 1063 ls (.int (x + y) :: st) h := Ex_nx rfl rfl
theorem rL_law_1063 (Q : Po) (h : Hp) (ls : List Value) (st : List Value) (a : Nat) (i : Int32) : Ex mL_law Q 1063 ls (.int i :: .ref a :: st) h = ((gK h a = 58 ∧ ¬ (i < 0 ∨ gL h a ≤ i.toNatClampNeg)) ∧ Ex mL_law Q 1064 ls (.int (gI h a i.toNatClampNeg) :: st) h) := Ex_gd rfl rfl
theorem rL_law_1064 (Q : Po) (h : Hp) (ls : List Value) (a0 : Int32) (a1 : Int32) (a2 : Int32) (a3 : Int32) (a4 : Int32) (a5 : Int32) (b : Nat) : Ex mL_law Q 1064 ls (.int a5 :: .int a4 :: .int a3 :: .int a2 :: .int a1 :: .int a0 :: .ref b :: []) h = (gK h b = 1 ∧ Ex mX0_who (Cont mL_law Q 1064 ls 1067 []) 0 [.ref b, .int a0, .int a1, .int a2, .int a3, .int a4, .int a5, .retAddr 0, .retAddr 0, .retAddr 0] [] h) := Ex_cg (n := 10) (as := [.ref b, .int a0, .int a1, .int a2, .int a3, .int a4, .int a5]) rfl rfl
theorem rL_law_1067 (Q : Po) (h : Hp) (l0 l1 l3 : Value) (x : Nat) (st : List Value) : Ex mL_law Q 1067 [l0, l1, .ref x, l3] st h = Ex mL_law Q 1068 [l0, l1, .ref x, l3] (.ref x :: st) h := Ex_nx rfl rfl
theorem rL_law_1068 (Q : Po) (h : Hp) (l1 l2 l3 : Value) (x : Nat) (st : List Value) : Ex mL_law Q 1068 [.ref x, l1, l2, l3] st h = Ex mL_law Q 1069 [.ref x, l1, l2, l3] (.ref x :: st) h := Ex_nx rfl rfl
theorem rL_law_1069 (Q : Po) (h : Hp) (l0 l1 l2 : Value) (x : Int32) (st : List Value) : Ex mL_law Q 1069 [l0, l1, l2, .int x] st h = Ex mL_law Q 1070 [l0, l1, l2, .int x] (.int x :: st) h := Ex_nx rfl rfl
theorem rL_law_1070 (Q : Po) (h : Hp) (ls : List Value) (st : List Value) : Ex mL_law Q 1070 ls st h = Ex mL_law Q 1071 ls (.int 1 :: st) h := Ex_nx rfl rfl
theorem rL_law_1071 (Q : Po) (h : Hp) (ls : List Value) (st : List Value) (x y : Int32) : Ex mL_law Q 1071 ls (.int y :: .int x :: st) h = Ex mL_law Q 1072 ls (.int (x + y) :: st) h := Ex_nx rfl rfl
theorem rL_law_1072 (Q : Po) (h : Hp) (ls : List Value) (st : List Value) (a : Nat) (i : Int32) : Ex mL_law Q 1072 ls (.int i :: .ref a :: st) h = ((gK h a = 58 ∧ ¬ (i < 0 ∨ gL h a ≤ i.toNatClampNeg)) ∧ Ex mL_law Q 1073 ls (.int (gI h a i.toNatClampNeg) :: st) h) := Ex_gd rfl rfl
theorem rL_law_1073 (Q : Po) (h : Hp) (l1 l2 l3 : Value) (x : Nat) (st : List Value) : Ex mL_law Q 1073 [.ref x, l1, l2, l3] st h = Ex mL_law Q 1074 [.ref x, l1, l2, l3] (.ref x :: st) h := Ex_nx rfl rfl
theorem rL_law_1074 (Q : Po) (h : Hp) (l0 l1 l2 : Value) (x : Int32) (st : List Value) : Ex mL_law Q 1074 [l0, l1, l2, .int x] st h = Ex mL_law Q 1075 [l0, l1, l2, .int x] (.int x :: st) h := Ex_nx rfl rfl
theorem rL_law_1075 (Q : Po) (h : Hp) (ls : List Value) (st : List Value) : Ex mL_law Q 1075 ls st h = Ex mL_law Q 1076 ls (.int 2 :: st) h := Ex_nx rfl rfl
theorem rL_law_1076 (Q : Po) (h : Hp) (ls : List Value) (st : List Value) (x y : Int32) : Ex mL_law Q 1076 ls (.int y :: .int x :: st) h = Ex mL_law Q 1077 ls (.int (x + y) :: st) h := Ex_nx rfl rfl
theorem rL_law_1077 (Q : Po) (h : Hp) (ls : List Value) (st : List Value) (a : Nat) (i : Int32) : Ex mL_law Q 1077 ls (.int i :: .ref a :: st) h = ((gK h a = 58 ∧ ¬ (i < 0 ∨ gL h a ≤ i.toNatClampNeg)) ∧ Ex mL_law Q 1078 ls (.int (gI h a i.toNatClampNeg) :: st) h) := Ex_gd rfl rfl
theorem rL_law_1078 (Q : Po) (h : Hp) (l1 l2 l3 : Value) (x : Nat) (st : List Value) : Ex mL_law Q 1078 [.ref x, l1, l2, l3] st h = Ex mL_law Q 1079 [.ref x, l1, l2, l3] (.ref x :: st) h := Ex_nx rfl rfl
theorem rL_law_1079 (Q : Po) (h : Hp) (l0 l1 l2 : Value) (x : Int32) (st : List Value) : Ex mL_law Q 1079 [l0, l1, l2, .int x] st h = Ex mL_law Q 1080 [l0, l1, l2, .int x] (.int x :: st) h := Ex_nx rfl rfl
theorem rL_law_1080 (Q : Po) (h : Hp) (ls : List Value) (st : List Value) : Ex mL_law Q 1080 ls st h = Ex mL_law Q 1081 ls (.int 3 :: st) h := Ex_nx rfl rfl
theorem rL_law_1081 (Q : Po) (h : Hp) (ls : List Value) (st : List Value) (x y : Int32) : Ex mL_law Q 1081 ls (.int y :: .int x :: st) h = Ex mL_law Q 1082 ls (.int (x + y) :: st) h := Ex_nx rfl rfl
theorem rL_law_1082 (Q : Po) (h : Hp) (ls : List Value) (st : List Value) (a : Nat) (i : Int32) : Ex mL_law Q 1082 ls (.int i :: .ref a :: st) h = ((gK h a = 58 ∧ ¬ (i < 0 ∨ gL h a ≤ i.toNatClampNeg)) ∧ Ex mL_law Q 1083 ls (.int (gI h a i.toNatClampNeg) :: st) h) := Ex_gd rfl rfl
theorem rL_law_1083 (Q : Po) (h : Hp) (l1 l2 l3 : Value) (x : Nat) (st : List Value) : Ex mL_law Q 1083 [.ref x, l1, l2, l3] st h = Ex mL_law Q 1084 [.ref x, l1, l2, l3] (.ref x :: st) h := Ex_nx rfl rfl
theorem rL_law_1084 (Q : Po) (h : Hp) (l0 l1 l2 : Value) (x : Int32) (st : List Value) : Ex mL_law Q 1084 [l0, l1, l2, .int x] st h = Ex mL_law Q 1085 [l0, l1, l2, .int x] (.int x :: st) h := Ex_nx rfl rfl
theorem rL_law_1085 (Q : Po) (h : Hp) (ls : List Value) (st : List Value) : Ex mL_law Q 1085 ls st h = Ex mL_law Q 1086 ls (.int 4 :: st) h := Ex_nx rfl rfl
theorem rL_law_1086 (Q : Po) (h : Hp) (ls : List Value) (st : List Value) (x y : Int32) : Ex mL_law Q 1086 ls (.int y :: .int x :: st) h = Ex mL_law Q 1087 ls (.int (x + y) :: st) h := Ex_nx rfl rfl
theorem rL_law_1087 (Q : Po) (h : Hp) (ls : List Value) (st : List Value) (a : Nat) (i : Int32) : Ex mL_law Q 1087 ls (.int i :: .ref a :: st) h = ((gK h a = 58 ∧ ¬ (i < 0 ∨ gL h a ≤ i.toNatClampNeg)) ∧ Ex mL_law Q 1088 ls (.int (gI h a i.toNatClampNeg) :: st) h) := Ex_gd rfl rfl
theorem rL_law_1088 (Q : Po) (h : Hp) (l1 l2 l3 : Value) (x : Nat) (st : List Value) : Ex mL_law Q 1088 [.ref x, l1, l2, l3] st h = Ex mL_law Q 1089 [.ref x, l1, l2, l3] (.ref x :: st) h := Ex_nx rfl rfl
theorem rL_law_1089 (Q : Po) (h : Hp) (l0 l1 l2 : Value) (x : Int32) (st : List Value) : Ex mL_law Q 1089 [l0, l1, l2, .int x] st h = Ex mL_law Q 1090 [l0, l1, l2, .int x] (.int x :: st) h := Ex_nx rfl rfl
theorem rL_law_1090 (Q : Po) (h : Hp) (ls : List Value) (st : List Value) : Ex mL_law Q 1090 ls st h = Ex mL_law Q 1091 ls (.int 5 :: st) h := Ex_nx rfl rfl
theorem rL_law_1091 (Q : Po) (h : Hp) (ls : List Value) (st : List Value) (x y : Int32) : Ex mL_law Q 1091 ls (.int y :: .int x :: st) h = Ex mL_law Q 1092 ls (.int (x + y) :: st) h := Ex_nx rfl rfl
theorem rL_law_1092 (Q : Po) (h : Hp) (ls : List Value) (st : List Value) (a : Nat) (i : Int32) : Ex mL_law Q 1092 ls (.int i :: .ref a :: st) h = ((gK h a = 58 ∧ ¬ (i < 0 ∨ gL h a ≤ i.toNatClampNeg)) ∧ Ex mL_law Q 1093 ls (.int (gI h a i.toNatClampNeg) :: st) h) := Ex_gd rfl rfl
theorem rL_law_1093 (Q : Po) (h : Hp) (l1 l2 l3 : Value) (x : Nat) (st : List Value) : Ex mL_law Q 1093 [.ref x, l1, l2, l3] st h = Ex mL_law Q 1094 [.ref x, l1, l2, l3] (.ref x :: st) h := Ex_nx rfl rfl
theorem rL_law_1094 (Q : Po) (h : Hp) (l0 l1 l2 : Value) (x : Int32) (st : List Value) : Ex mL_law Q 1094 [l0, l1, l2, .int x] st h = Ex mL_law Q 1095 [l0, l1, l2, .int x] (.int x :: st) h := Ex_nx rfl rfl
theorem rL_law_1095 (Q : Po) (h : Hp) (ls : List Value) (st : List Value) : Ex mL_law Q 1095 ls st h = Ex mL_law Q 1097 ls (.int 6 :: st) h := Ex_nx rfl rfl
theorem rL_law_1097 (Q : Po) (h : Hp) (ls : List Value) (st : List Value) (x y : Int32) : Ex mL_law Q 1097 ls (.int y :: .int x :: st) h = Ex mL_law Q 1098 ls (.int (x + y) :: st) h := Ex_nx rfl rfl
theorem rL_law_1098 (Q : Po) (h : Hp) (ls : List Value) (st : List Value) (a : Nat) (i : Int32) : Ex mL_law Q 1098 ls (.int i :: .ref a :: st) h = ((gK h a = 58 ∧ ¬ (i < 0 ∨ gL h a ≤ i.toNatClampNeg)) ∧ Ex mL_law Q 1099 ls (.int (gI h a i.toNatClampNeg) :: st) h) := Ex_gd rfl rfl
theorem rL_law_1099 (Q : Po) (h : Hp) (ls : List Value) (a0 : Int32) (a1 : Int32) (a2 : Int32) (a3 : Int32) (a4 : Int32) (a5 : Int32) (s0 : Value) (b : Nat) : Ex mL_law Q 1099 ls (.int a5 :: .int a4 :: .int a3 :: .int a2 :: .int a1 :: .int a0 :: .ref b :: [s0]) h = (gK h b = 9 ∧ Ex mX9_who (Cont mL_law Q 1099 ls 1102 [s0]) 0 [.ref b, .int a0, .int a1, .int a2, .int a3, .int a4, .int a5, .retAddr 0] [] h) := Ex_cg (n := 8) (as := [.ref b, .int a0, .int a1, .int a2, .int a3, .int a4, .int a5]) rfl rfl
theorem rL_law_1102 (Q : Po) (h : Hp) (ls : List Value) (st : List Value) (x y : Int32) : Ex mL_law Q 1102 ls (.int y :: .int x :: st) h = if x = y then Ex mL_law Q 1514 ls st h else Ex mL_law Q 1105 ls st h := Ex_br rfl rfl
theorem rL_law_1105 (Q : Po) (h : Hp) (ls : List Value) (st : List Value) : Ex mL_law Q 1105 ls st h = Ex mL_law Q 1106 ls (.int 0 :: st) h := Ex_nx rfl rfl
theorem rL_law_1106 (Q : Po) (h : Hp) (ls : List Value) (x : Int32) : Ex mL_law Q 1106 ls [.int x] h = ((x = 0 ∨ x = 1) ∧ Q (.inl (some (.int x))) h) := Ex_rg rfl rfl
theorem rL_law_1107 (Q : Po) (h : Hp) (l0 l2 l3 : Value) (x : Nat) (st : List Value) : Ex mL_law Q 1107 [l0, .ref x, l2, l3] st h = Ex mL_law Q 1108 [l0, .ref x, l2, l3] (.ref x :: st) h := Ex_nx rfl rfl
theorem rL_law_1108 (Q : Po) (h : Hp) (l1 l2 l3 : Value) (x : Nat) (st : List Value) : Ex mL_law Q 1108 [.ref x, l1, l2, l3] st h = Ex mL_law Q 1109 [.ref x, l1, l2, l3] (.ref x :: st) h := Ex_nx rfl rfl
theorem rL_law_1109 (Q : Po) (h : Hp) (l0 l1 l2 : Value) (x : Int32) (st : List Value) : Ex mL_law Q 1109 [l0, l1, l2, .int x] st h = Ex mL_law Q 1110 [l0, l1, l2, .int x] (.int x :: st) h := Ex_nx rfl rfl
theorem rL_law_1110 (Q : Po) (h : Hp) (ls : List Value) (st : List Value) : Ex mL_law Q 1110 ls st h = Ex mL_law Q 1111 ls (.int 1 :: st) h := Ex_nx rfl rfl
theorem rL_law_1111 (Q : Po) (h : Hp) (ls : List Value) (st : List Value) (x y : Int32) : Ex mL_law Q 1111 ls (.int y :: .int x :: st) h = Ex mL_law Q 1112 ls (.int (x + y) :: st) h := Ex_nx rfl rfl
theorem rL_law_1112 (Q : Po) (h : Hp) (ls : List Value) (st : List Value) (a : Nat) (i : Int32) : Ex mL_law Q 1112 ls (.int i :: .ref a :: st) h = ((gK h a = 58 ∧ ¬ (i < 0 ∨ gL h a ≤ i.toNatClampNeg)) ∧ Ex mL_law Q 1113 ls (.int (gI h a i.toNatClampNeg) :: st) h) := Ex_gd rfl rfl
theorem rL_law_1113 (Q : Po) (h : Hp) (l1 l2 l3 : Value) (x : Nat) (st : List Value) : Ex mL_law Q 1113 [.ref x, l1, l2, l3] st h = Ex mL_law Q 1114 [.ref x, l1, l2, l3] (.ref x :: st) h := Ex_nx rfl rfl
theorem rL_law_1114 (Q : Po) (h : Hp) (l0 l1 l2 : Value) (x : Int32) (st : List Value) : Ex mL_law Q 1114 [l0, l1, l2, .int x] st h = Ex mL_law Q 1115 [l0, l1, l2, .int x] (.int x :: st) h := Ex_nx rfl rfl
theorem rL_law_1115 (Q : Po) (h : Hp) (ls : List Value) (st : List Value) : Ex mL_law Q 1115 ls st h = Ex mL_law Q 1116 ls (.int 2 :: st) h := Ex_nx rfl rfl
theorem rL_law_1116 (Q : Po) (h : Hp) (ls : List Value) (st : List Value) (x y : Int32) : Ex mL_law Q 1116 ls (.int y :: .int x :: st) h = Ex mL_law Q 1117 ls (.int (x + y) :: st) h := Ex_nx rfl rfl
theorem rL_law_1117 (Q : Po) (h : Hp) (ls : List Value) (st : List Value) (a : Nat) (i : Int32) : Ex mL_law Q 1117 ls (.int i :: .ref a :: st) h = ((gK h a = 58 ∧ ¬ (i < 0 ∨ gL h a ≤ i.toNatClampNeg)) ∧ Ex mL_law Q 1118 ls (.int (gI h a i.toNatClampNeg) :: st) h) := Ex_gd rfl rfl
theorem rL_law_1118 (Q : Po) (h : Hp) (l1 l2 l3 : Value) (x : Nat) (st : List Value) : Ex mL_law Q 1118 [.ref x, l1, l2, l3] st h = Ex mL_law Q 1119 [.ref x, l1, l2, l3] (.ref x :: st) h := Ex_nx rfl rfl
theorem rL_law_1119 (Q : Po) (h : Hp) (l0 l1 l2 : Value) (x : Int32) (st : List Value) : Ex mL_law Q 1119 [l0, l1, l2, .int x] st h = Ex mL_law Q 1120 [l0, l1, l2, .int x] (.int x :: st) h := Ex_nx rfl rfl
theorem rL_law_1120 (Q : Po) (h : Hp) (ls : List Value) (st : List Value) : Ex mL_law Q 1120 ls st h = Ex mL_law Q 1121 ls (.int 3 :: st) h := Ex_nx rfl rfl
theorem rL_law_1121 (Q : Po) (h : Hp) (ls : List Value) (st : List Value) (x y : Int32) : Ex mL_law Q 1121 ls (.int y :: .int x :: st) h = Ex mL_law Q 1122 ls (.int (x + y) :: st) h := Ex_nx rfl rfl
theorem rL_law_1122 (Q : Po) (h : Hp) (ls : List Value) (st : List Value) (a : Nat) (i : Int32) : Ex mL_law Q 1122 ls (.int i :: .ref a :: st) h = ((gK h a = 58 ∧ ¬ (i < 0 ∨ gL h a ≤ i.toNatClampNeg)) ∧ Ex mL_law Q 1123 ls (.int (gI h a i.toNatClampNeg) :: st) h) := Ex_gd rfl rfl
theorem rL_law_1123 (Q : Po) (h : Hp) (l1 l2 l3 : Value) (x : Nat) (st : List Value) : Ex mL_law Q 1123 [.ref x, l1, l2, l3] st h = Ex mL_law Q 1124 [.ref x, l1, l2, l3] (.ref x :: st) h := Ex_nx rfl rfl
theorem rL_law_1124 (Q : Po) (h : Hp) (l0 l1 l2 : Value) (x : Int32) (st : List Value) : Ex mL_law Q 1124 [l0, l1, l2, .int x] st h = Ex mL_law Q 1125 [l0, l1, l2, .int x] (.int x :: st) h := Ex_nx rfl rfl
theorem rL_law_1125 (Q : Po) (h : Hp) (ls : List Value) (st : List Value) : Ex mL_law Q 1125 ls st h = Ex mL_law Q 1126 ls (.int 4 :: st) h := Ex_nx rfl rfl
theorem rL_law_1126 (Q : Po) (h : Hp) (ls : List Value) (st : List Value) (x y : Int32) : Ex mL_law Q 1126 ls (.int y :: .int x :: st) h = Ex mL_law Q 1127 ls (.int (x + y) :: st) h := Ex_nx rfl rfl
theorem rL_law_1127 (Q : Po) (h : Hp) (ls : List Value) (st : List Value) (a : Nat) (i : Int32) : Ex mL_law Q 1127 ls (.int i :: .ref a :: st) h = ((gK h a = 58 ∧ ¬ (i < 0 ∨ gL h a ≤ i.toNatClampNeg)) ∧ Ex mL_law Q 1128 ls (.int (gI h a i.toNatClampNeg) :: st) h) := Ex_gd rfl rfl
theorem rL_law_1128 (Q : Po) (h : Hp) (l1 l2 l3 : Value) (x : Nat) (st : List Value) : Ex mL_law Q 1128 [.ref x, l1, l2, l3] st h = Ex mL_law Q 1129 [.ref x, l1, l2, l3] (.ref x :: st) h := Ex_nx rfl rfl
theorem rL_law_1129 (Q : Po) (h : Hp) (l0 l1 l2 : Value) (x : Int32) (st : List Value) : Ex mL_law Q 1129 [l0, l1, l2, .int x] st h = Ex mL_law Q 1130 [l0, l1, l2, .int x] (.int x :: st) h := Ex_nx rfl rfl
theorem rL_law_1130 (Q : Po) (h : Hp) (ls : List Value) (st : List Value) : Ex mL_law Q 1130 ls st h = Ex mL_law Q 1131 ls (.int 5 :: st) h := Ex_nx rfl rfl
theorem rL_law_1131 (Q : Po) (h : Hp) (ls : List Value) (st : List Value) (x y : Int32) : Ex mL_law Q 1131 ls (.int y :: .int x :: st) h = Ex mL_law Q 1132 ls (.int (x + y) :: st) h := Ex_nx rfl rfl
theorem rL_law_1132 (Q : Po) (h : Hp) (ls : List Value) (st : List Value) (a : Nat) (i : Int32) : Ex mL_law Q 1132 ls (.int i :: .ref a :: st) h = ((gK h a = 58 ∧ ¬ (i < 0 ∨ gL h a ≤ i.toNatClampNeg)) ∧ Ex mL_law Q 1133 ls (.int (gI h a i.toNatClampNeg) :: st) h) := Ex_gd rfl rfl
theorem rL_law_1133 (Q : Po) (h : Hp) (ls : List Value) (a0 : Int32) (a1 : Int32) (a2 : Int32) (a3 : Int32) (a4 : Int32) (b : Nat) : Ex mL_law Q 1133 ls (.int a4 :: .int a3 :: .int a2 :: .int a1 :: .int a0 :: .ref b :: []) h = (gK h b = 1 ∧ Ex mX0_paste (Cont mL_law Q 1133 ls 1136 []) 0 [.ref b, .int a0, .int a1, .int a2, .int a3, .int a4, .retAddr 0, .retAddr 0, .retAddr 0] [] h) := Ex_cg (n := 9) (as := [.ref b, .int a0, .int a1, .int a2, .int a3, .int a4]) rfl rfl
theorem rL_law_1136 (Q : Po) (h : Hp) (l0 l1 l3 : Value) (x : Nat) (st : List Value) : Ex mL_law Q 1136 [l0, l1, .ref x, l3] st h = Ex mL_law Q 1137 [l0, l1, .ref x, l3] (.ref x :: st) h := Ex_nx rfl rfl
theorem rL_law_1137 (Q : Po) (h : Hp) (l1 l2 l3 : Value) (x : Nat) (st : List Value) : Ex mL_law Q 1137 [.ref x, l1, l2, l3] st h = Ex mL_law Q 1138 [.ref x, l1, l2, l3] (.ref x :: st) h := Ex_nx rfl rfl
theorem rL_law_1138 (Q : Po) (h : Hp) (l0 l1 l2 : Value) (x : Int32) (st : List Value) : Ex mL_law Q 1138 [l0, l1, l2, .int x] st h = Ex mL_law Q 1139 [l0, l1, l2, .int x] (.int x :: st) h := Ex_nx rfl rfl
theorem rL_law_1139 (Q : Po) (h : Hp) (ls : List Value) (st : List Value) : Ex mL_law Q 1139 ls st h = Ex mL_law Q 1140 ls (.int 1 :: st) h := Ex_nx rfl rfl
theorem rL_law_1140 (Q : Po) (h : Hp) (ls : List Value) (st : List Value) (x y : Int32) : Ex mL_law Q 1140 ls (.int y :: .int x :: st) h = Ex mL_law Q 1141 ls (.int (x + y) :: st) h := Ex_nx rfl rfl
theorem rL_law_1141 (Q : Po) (h : Hp) (ls : List Value) (st : List Value) (a : Nat) (i : Int32) : Ex mL_law Q 1141 ls (.int i :: .ref a :: st) h = ((gK h a = 58 ∧ ¬ (i < 0 ∨ gL h a ≤ i.toNatClampNeg)) ∧ Ex mL_law Q 1142 ls (.int (gI h a i.toNatClampNeg) :: st) h) := Ex_gd rfl rfl
theorem rL_law_1142 (Q : Po) (h : Hp) (l1 l2 l3 : Value) (x : Nat) (st : List Value) : Ex mL_law Q 1142 [.ref x, l1, l2, l3] st h = Ex mL_law Q 1143 [.ref x, l1, l2, l3] (.ref x :: st) h := Ex_nx rfl rfl
theorem rL_law_1143 (Q : Po) (h : Hp) (l0 l1 l2 : Value) (x : Int32) (st : List Value) : Ex mL_law Q 1143 [l0, l1, l2, .int x] st h = Ex mL_law Q 1144 [l0, l1, l2, .int x] (.int x :: st) h := Ex_nx rfl rfl
theorem rL_law_1144 (Q : Po) (h : Hp) (ls : List Value) (st : List Value) : Ex mL_law Q 1144 ls st h = Ex mL_law Q 1145 ls (.int 2 :: st) h := Ex_nx rfl rfl
theorem rL_law_1145 (Q : Po) (h : Hp) (ls : List Value) (st : List Value) (x y : Int32) : Ex mL_law Q 1145 ls (.int y :: .int x :: st) h = Ex mL_law Q 1146 ls (.int (x + y) :: st) h := Ex_nx rfl rfl
theorem rL_law_1146 (Q : Po) (h : Hp) (ls : List Value) (st : List Value) (a : Nat) (i : Int32) : Ex mL_law Q 1146 ls (.int i :: .ref a :: st) h = ((gK h a = 58 ∧ ¬ (i < 0 ∨ gL h a ≤ i.toNatClampNeg)) ∧ Ex mL_law Q 1147 ls (.int (gI h a i.toNatClampNeg) :: st) h) := Ex_gd rfl rfl
theorem rL_law_1147 (Q : Po) (h : Hp) (l1 l2 l3 : Value) (x : Nat) (st : List Value) : Ex mL_law Q 1147 [.ref x, l1, l2, l3] st h = Ex mL_law Q 1148 [.ref x, l1, l2, l3] (.ref x :: st) h := Ex_nx rfl rfl
theorem rL_law_1148 (Q : Po) (h : Hp) (l0 l1 l2 : Value) (x : Int32) (st : List Value) : Ex mL_law Q 1148 [l0, l1, l2, .int x] st h = Ex mL_law Q 1149 [l0, l1, l2, .int x] (.int x :: st) h := Ex_nx rfl rfl
theorem rL_law_1149 (Q : Po) (h : Hp) (ls : List Value) (st : List Value) : Ex mL_law Q 1149 ls st h = Ex mL_law Q 1150 ls (.int 3 :: st) h := Ex_nx rfl rfl
theorem rL_law_1150 (Q : Po) (h : Hp) (ls : List Value) (st : List Value) (x y : Int32) : Ex mL_law Q 1150 ls (.int y :: .int x :: st) h = Ex mL_law Q 1151 ls (.int (x + y) :: st) h := Ex_nx rfl rfl
theorem rL_law_1151 (Q : Po) (h : Hp) (ls : List Value) (st : List Value) (a : Nat) (i : Int32) : Ex mL_law Q 1151 ls (.int i :: .ref a :: st) h = ((gK h a = 58 ∧ ¬ (i < 0 ∨ gL h a ≤ i.toNatClampNeg)) ∧ Ex mL_law Q 1152 ls (.int (gI h a i.toNatClampNeg) :: st) h) := Ex_gd rfl rfl
theorem rL_law_1152 (Q : Po) (h : Hp) (l1 l2 l3 : Value) (x : Nat) (st : List Value) : Ex mL_law Q 1152 [.ref x, l1, l2, l3] st h = Ex mL_law Q 1153 [.ref x, l1, l2, l3] (.ref x :: st) h := Ex_nx rfl rfl
theorem rL_law_1153 (Q : Po) (h : Hp) (l0 l1 l2 : Value) (x : Int32) (st : List Value) : Ex mL_law Q 1153 [l0, l1, l2, .int x] st h = Ex mL_law Q 1154 [l0, l1, l2, .int x] (.int x :: st) h := Ex_nx rfl rfl
theorem rL_law_1154 (Q : Po) (h : Hp) (ls : List Value) (st : List Value) : Ex mL_law Q 1154 ls st h = Ex mL_law Q 1155 ls (.int 4 :: st) h := Ex_nx rfl rfl
theorem rL_law_1155 (Q : Po) (h : Hp) (ls : List Value) (st : List Value) (x y : Int32) : Ex mL_law Q 1155 ls (.int y :: .int x :: st) h = Ex mL_law Q 1156 ls (.int (x + y) :: st) h := Ex_nx rfl rfl
theorem rL_law_1156 (Q : Po) (h : Hp) (ls : List Value) (st : List Value) (a : Nat) (i : Int32) : Ex mL_law Q 1156 ls (.int i :: .ref a :: st) h = ((gK h a = 58 ∧ ¬ (i < 0 ∨ gL h a ≤ i.toNatClampNeg)) ∧ Ex mL_law Q 1157 ls (.int (gI h a i.toNatClampNeg) :: st) h) := Ex_gd rfl rfl
theorem rL_law_1157 (Q : Po) (h : Hp) (l1 l2 l3 : Value) (x : Nat) (st : List Value) : Ex mL_law Q 1157 [.ref x, l1, l2, l3] st h = Ex mL_law Q 1158 [.ref x, l1, l2, l3] (.ref x :: st) h := Ex_nx rfl rfl
theorem rL_law_1158 (Q : Po) (h : Hp) (l0 l1 l2 : Value) (x : Int32) (st : List Value) : Ex mL_law Q 1158 [l0, l1, l2, .int x] st h = Ex mL_law Q 1159 [l0, l1, l2, .int x] (.int x :: st) h := Ex_nx rfl rfl
theorem rL_law_1159 (Q : Po) (h : Hp) (ls : List Value) (st : List Value) : Ex mL_law Q 1159 ls st h = Ex mL_law Q 1160 ls (.int 5 :: st) h := Ex_nx rfl rfl
theorem rL_law_1160 (Q : Po) (h : Hp) (ls : List Value) (st : List Value) (x y : Int32) : Ex mL_law Q 1160 ls (.int y :: .int x :: st) h = Ex mL_law Q 1161 ls (.int (x + y) :: st) h := Ex_nx rfl rfl
theorem rL_law_1161 (Q : Po) (h : Hp) (ls : List Value) (st : List Value) (a : Nat) (i : Int32) : Ex mL_law Q 1161 ls (.int i :: .ref a :: st) h = ((gK h a = 58 ∧ ¬ (i < 0 ∨ gL h a ≤ i.toNatClampNeg)) ∧ Ex mL_law Q 1162 ls (.int (gI h a i.toNatClampNeg) :: st) h) := Ex_gd rfl rfl
theorem rL_law_1162 (Q : Po) (h : Hp) (ls : List Value) (a0 : Int32) (a1 : Int32) (a2 : Int32) (a3 : Int32) (a4 : Int32) (s0 : Value) (b : Nat) : Ex mL_law Q 1162 ls (.int a4 :: .int a3 :: .int a2 :: .int a1 :: .int a0 :: .ref b :: [s0]) h = (gK h b = 9 ∧ Ex mX9_paste (Cont mL_law Q 1162 ls 1165 [s0]) 0 [.ref b, .int a0, .int a1, .int a2, .int a3, .int a4, .retAddr 0] [] h) := Ex_cg (n := 7) (as := [.ref b, .int a0, .int a1, .int a2, .int a3, .int a4]) rfl rfl
theorem rL_law_1165 (Q : Po) (h : Hp) (ls : List Value) (st : List Value) (x y : Int32) : Ex mL_law Q 1165 ls (.int y :: .int x :: st) h = if x = y then Ex mL_law Q 1514 ls st h else Ex mL_law Q 1168 ls st h := Ex_br rfl rfl
theorem rL_law_1168 (Q : Po) (h : Hp) (ls : List Value) (st : List Value) : Ex mL_law Q 1168 ls st h = Ex mL_law Q 1169 ls (.int 0 :: st) h := Ex_nx rfl rfl
theorem rL_law_1169 (Q : Po) (h : Hp) (ls : List Value) (x : Int32) : Ex mL_law Q 1169 ls [.int x] h = ((x = 0 ∨ x = 1) ∧ Q (.inl (some (.int x))) h) := Ex_rg rfl rfl
theorem rL_law_1170 (Q : Po) (h : Hp) (l0 l2 l3 : Value) (x : Nat) (st : List Value) : Ex mL_law Q 1170 [l0, .ref x, l2, l3] st h = Ex mL_law Q 1171 [l0, .ref x, l2, l3] (.ref x :: st) h := Ex_nx rfl rfl
theorem rL_law_1171 (Q : Po) (h : Hp) (l1 l2 l3 : Value) (x : Nat) (st : List Value) : Ex mL_law Q 1171 [.ref x, l1, l2, l3] st h = Ex mL_law Q 1172 [.ref x, l1, l2, l3] (.ref x :: st) h := Ex_nx rfl rfl
theorem rL_law_1172 (Q : Po) (h : Hp) (l0 l1 l2 : Value) (x : Int32) (st : List Value) : Ex mL_law Q 1172 [l0, l1, l2, .int x] st h = Ex mL_law Q 1173 [l0, l1, l2, .int x] (.int x :: st) h := Ex_nx rfl rfl
theorem rL_law_1173 (Q : Po) (h : Hp) (ls : List Value) (st : List Value) : Ex mL_law Q 1173 ls st h = Ex mL_law Q 1174 ls (.int 1 :: st) h := Ex_nx rfl rfl
theorem rL_law_1174 (Q : Po) (h : Hp) (ls : List Value) (st : List Value) (x y : Int32) : Ex mL_law Q 1174 ls (.int y :: .int x :: st) h = Ex mL_law Q 1175 ls (.int (x + y) :: st) h := Ex_nx rfl rfl
theorem rL_law_1175 (Q : Po) (h : Hp) (ls : List Value) (st : List Value) (a : Nat) (i : Int32) : Ex mL_law Q 1175 ls (.int i :: .ref a :: st) h = ((gK h a = 58 ∧ ¬ (i < 0 ∨ gL h a ≤ i.toNatClampNeg)) ∧ Ex mL_law Q 1176 ls (.int (gI h a i.toNatClampNeg) :: st) h) := Ex_gd rfl rfl
theorem rL_law_1176 (Q : Po) (h : Hp) (l1 l2 l3 : Value) (x : Nat) (st : List Value) : Ex mL_law Q 1176 [.ref x, l1, l2, l3] st h = Ex mL_law Q 1177 [.ref x, l1, l2, l3] (.ref x :: st) h := Ex_nx rfl rfl
theorem rL_law_1177 (Q : Po) (h : Hp) (l0 l1 l2 : Value) (x : Int32) (st : List Value) : Ex mL_law Q 1177 [l0, l1, l2, .int x] st h = Ex mL_law Q 1178 [l0, l1, l2, .int x] (.int x :: st) h := Ex_nx rfl rfl
theorem rL_law_1178 (Q : Po) (h : Hp) (ls : List Value) (st : List Value) : Ex mL_law Q 1178 ls st h = Ex mL_law Q 1179 ls (.int 2 :: st) h := Ex_nx rfl rfl
theorem rL_law_1179 (Q : Po) (h : Hp) (ls : List Value) (st : List Value) (x y : Int32) : Ex mL_law Q 1179 ls (.int y :: .int x :: st) h = Ex mL_law Q 1180 ls (.int (x + y) :: st) h := Ex_nx rfl rfl
theorem rL_law_1180 (Q : Po) (h : Hp) (ls : List Value) (st : List Value) (a : Nat) (i : Int32) : Ex mL_law Q 1180 ls (.int i :: .ref a :: st) h = ((gK h a = 58 ∧ ¬ (i < 0 ∨ gL h a ≤ i.toNatClampNeg)) ∧ Ex mL_law Q 1181 ls (.int (gI h a i.toNatClampNeg) :: st) h) := Ex_gd rfl rfl
theorem rL_law_1181 (Q : Po) (h : Hp) (l1 l2 l3 : Value) (x : Nat) (st : List Value) : Ex mL_law Q 1181 [.ref x, l1, l2, l3] st h = Ex mL_law Q 1182 [.ref x, l1, l2, l3] (.ref x :: st) h := Ex_nx rfl rfl
theorem rL_law_1182 (Q : Po) (h : Hp) (l0 l1 l2 : Value) (x : Int32) (st : List Value) : Ex mL_law Q 1182 [l0, l1, l2, .int x] st h = Ex mL_law Q 1183 [l0, l1, l2, .int x] (.int x :: st) h := Ex_nx rfl rfl
theorem rL_law_1183 (Q : Po) (h : Hp) (ls : List Value) (st : List Value) : Ex mL_law Q 1183 ls st h = Ex mL_law Q 1184 ls (.int 3 :: st) h := Ex_nx rfl rfl
theorem rL_law_1184 (Q : Po) (h : Hp) (ls : List Value) (st : List Value) (x y : Int32) : Ex mL_law Q 1184 ls (.int y :: .int x :: st) h = Ex mL_law Q 1185 ls (.int (x + y) :: st) h := Ex_nx rfl rfl
theorem rL_law_1185 (Q : Po) (h : Hp) (ls : List Value) (st : List Value) (a : Nat) (i : Int32) : Ex mL_law Q 1185 ls (.int i :: .ref a :: st) h = ((gK h a = 58 ∧ ¬ (i < 0 ∨ gL h a ≤ i.toNatClampNeg)) ∧ Ex mL_law Q 1186 ls (.int (gI h a i.toNatClampNeg) :: st) h) := Ex_gd rfl rfl
theorem rL_law_1186 (Q : Po) (h : Hp) (l1 l2 l3 : Value) (x : Nat) (st : List Value) : Ex mL_law Q 1186 [.ref x, l1, l2, l3] st h = Ex mL_law Q 1187 [.ref x, l1, l2, l3] (.ref x :: st) h := Ex_nx rfl rfl
theorem rL_law_1187 (Q : Po) (h : Hp) (l0 l1 l2 : Value) (x : Int32) (st : List Value) : Ex mL_law Q 1187 [l0, l1, l2, .int x] st h = Ex mL_law Q 1188 [l0, l1, l2, .int x] (.int x :: st) h := Ex_nx rfl rfl
theorem rL_law_1188 (Q : Po) (h : Hp) (ls : List Value) (st : List Value) : Ex mL_law Q 1188 ls st h = Ex mL_law Q 1189 ls (.int 4 :: st) h := Ex_nx rfl rfl
theorem rL_law_1189 (Q : Po) (h : Hp) (ls : List Value) (st : List Value) (x y : Int32) : Ex mL_law Q 1189 ls (.int y :: .int x :: st) h = Ex mL_law Q 1190 ls (.int (x + y) :: st) h := Ex_nx rfl rfl
theorem rL_law_1190 (Q : Po) (h : Hp) (ls : List Value) (st : List Value) (a : Nat) (i : Int32) : Ex mL_law Q 1190 ls (.int i :: .ref a :: st) h = ((gK h a = 58 ∧ ¬ (i < 0 ∨ gL h a ≤ i.toNatClampNeg)) ∧ Ex mL_law Q 1191 ls (.int (gI h a i.toNatClampNeg) :: st) h) := Ex_gd rfl rfl
theorem rL_law_1191 (Q : Po) (h : Hp) (ls : List Value) (a0 : Int32) (a1 : Int32) (a2 : Int32) (a3 : Int32) (b : Nat) : Ex mL_law Q 1191 ls (.int a3 :: .int a2 :: .int a1 :: .int a0 :: .ref b :: []) h = (gK h b = 1 ∧ Ex mX0_hungers (Cont mL_law Q 1191 ls 1194 []) 0 [.ref b, .int a0, .int a1, .int a2, .int a3, .retAddr 0, .retAddr 0, .retAddr 0] [] h) := Ex_cg (n := 8) (as := [.ref b, .int a0, .int a1, .int a2, .int a3]) rfl rfl
theorem rL_law_1194 (Q : Po) (h : Hp) (l0 l1 l3 : Value) (x : Nat) (st : List Value) : Ex mL_law Q 1194 [l0, l1, .ref x, l3] st h = Ex mL_law Q 1195 [l0, l1, .ref x, l3] (.ref x :: st) h := Ex_nx rfl rfl
theorem rL_law_1195 (Q : Po) (h : Hp) (l1 l2 l3 : Value) (x : Nat) (st : List Value) : Ex mL_law Q 1195 [.ref x, l1, l2, l3] st h = Ex mL_law Q 1196 [.ref x, l1, l2, l3] (.ref x :: st) h := Ex_nx rfl rfl
theorem rL_law_1196 (Q : Po) (h : Hp) (l0 l1 l2 : Value) (x : Int32) (st : List Value) : Ex mL_law Q 1196 [l0, l1, l2, .int x] st h = Ex mL_law Q 1197 [l0, l1, l2, .int x] (.int x :: st) h := Ex_nx rfl rfl
theorem rL_law_1197 (Q : Po) (h : Hp) (ls : List Value) (st : List Value) : Ex mL_law Q 1197 ls st h = Ex mL_law Q 1198 ls (.int 1 :: st) h := Ex_nx rfl rfl
theorem rL_law_1198 (Q : Po) (h : Hp) (ls : List Value) (st : List Value) (x y : Int32) : Ex mL_law Q 1198 ls (.int y :: .int x :: st) h = Ex mL_law Q 1199 ls (.int (x + y) :: st) h := Ex_nx rfl rfl
theorem rL_law_1199 (Q : Po) (h : Hp) (ls : List Value) (st : List Value) (a : Nat) (i : Int32) : Ex mL_law Q 1199 ls (.int i :: .ref a :: st) h = ((gK h a = 58 ∧ ¬ (i < 0 ∨ gL h a ≤ i.toNatClampNeg)) ∧ Ex mL_law Q 1200 ls (.int (gI h a i.toNatClampNeg) :: st) h) := Ex_gd rfl rfl
theorem rL_law_1200 (Q : Po) (h : Hp) (l1 l2 l3 : Value) (x : Nat) (st : List Value) : Ex mL_law Q 1200 [.ref x, l1, l2, l3] st h = Ex mL_law Q 1201 [.ref x, l1, l2, l3] (.ref x :: st) h := Ex_nx rfl rfl
theorem rL_law_1201 (Q : Po) (h : Hp) (l0 l1 l2 : Value) (x : Int32) (st : List Value) : Ex mL_law Q 1201 [l0, l1, l2, .int x] st h = Ex mL_law Q 1202 [l0, l1, l2, .int x] (.int x :: st) h := Ex_nx rfl rfl
theorem rL_law_1202 (Q : Po) (h : Hp) (ls : List Value) (st : List Value) : Ex mL_law Q 1202 ls st h = Ex mL_law Q 1203 ls (.int 2 :: st) h := Ex_nx rfl rfl
theorem rL_law_1203 (Q : Po) (h : Hp) (ls : List Value) (st : List Value) (x y : Int32) : Ex mL_law Q 1203 ls (.int y :: .int x :: st) h = Ex mL_law Q 1204 ls (.int (x + y) :: st) h := Ex_nx rfl rfl
theorem rL_law_1204 (Q : Po) (h : Hp) (ls : List Value) (st : List Value) (a : Nat) (i : Int32) : Ex mL_law Q 1204 ls (.int i :: .ref a :: st) h = ((gK h a = 58 ∧ ¬ (i < 0 ∨ gL h a ≤ i.toNatClampNeg)) ∧ Ex mL_law Q 1205 ls (.int (gI h a i.toNatClampNeg) :: st) h) := Ex_gd rfl rfl
theorem rL_law_1205 (Q : Po) (h : Hp) (l1 l2 l3 : Value) (x : Nat) (st : List Value) : Ex mL_law Q 1205 [.ref x, l1, l2, l3] st h = Ex mL_law Q 1206 [.ref x, l1, l2, l3] (.ref x :: st) h := Ex_nx rfl rfl
theorem rL_law_1206 (Q : Po) (h : Hp) (l0 l1 l2 : Value) (x : Int32) (st : List Value) : Ex mL_law Q 1206 [l0, l1, l2, .int x] st h = Ex mL_law Q 1207 [l0, l1, l2, .int x] (.int x :: st) h := Ex_nx rfl rfl
theorem rL_law_1207 (Q : Po) (h : Hp) (ls : List Value) (st : List Value) : Ex mL_law Q 1207 ls st h = Ex mL_law Q 1208 ls (.int 3 :: st) h := Ex_nx rfl rfl
theorem rL_law_1208 (Q : Po) (h : Hp) (ls : List Value) (st : List Value) (x y : Int32) : Ex mL_law Q 1208 ls (.int y :: .int x :: st) h = Ex mL_law Q 1209 ls (.int (x + y) :: st) h := Ex_nx rfl rfl
theorem rL_law_1209 (Q : Po) (h : Hp) (ls : List Value) (st : List Value) (a : Nat) (i : Int32) : Ex mL_law Q 1209 ls (.int i :: .ref a :: st) h = ((gK h a = 58 ∧ ¬ (i < 0 ∨ gL h a ≤ i.toNatClampNeg)) ∧ Ex mL_law Q 1210 ls (.int (gI h a i.toNatClampNeg) :: st) h) := Ex_gd rfl rfl
theorem rL_law_1210 (Q : Po) (h : Hp) (l1 l2 l3 : Value) (x : Nat) (st : List Value) : Ex mL_law Q 1210 [.ref x, l1, l2, l3] st h = Ex mL_law Q 1211 [.ref x, l1, l2, l3] (.ref x :: st) h := Ex_nx rfl rfl
theorem rL_law_1211 (Q : Po) (h : Hp) (l0 l1 l2 : Value) (x : Int32) (st : List Value) : Ex mL_law Q 1211 [l0, l1, l2, .int x] st h = Ex mL_law Q 1212 [l0, l1, l2, .int x] (.int x :: st) h := Ex_nx rfl rfl
theorem rL_law_1212 (Q : Po) (h : Hp) (ls : List Value) (st : List Value) : Ex mL_law Q 1212 ls st h = Ex mL_law Q 1213 ls (.int 4 :: st) h := Ex_nx rfl rfl
theorem rL_law_1213 (Q : Po) (h : Hp) (ls : List Value) (st : List Value) (x y : Int32) : Ex mL_law Q 1213 ls (.int y :: .int x :: st) h = Ex mL_law Q 1214 ls (.int (x + y) :: st) h := Ex_nx rfl rfl
theorem rL_law_1214 (Q : Po) (h : Hp) (ls : List Value) (st : List Value) (a : Nat) (i : Int32) : Ex mL_law Q 1214 ls (.int i :: .ref a :: st) h = ((gK h a = 58 ∧ ¬ (i < 0 ∨ gL h a ≤ i.toNatClampNeg)) ∧ Ex mL_law Q 1215 ls (.int (gI h a i.toNatClampNeg) :: st) h) := Ex_gd rfl rfl
theorem rL_law_1215 (Q : Po) (h : Hp) (ls : List Value) (a0 : Int32) (a1 : Int32) (a2 : Int32) (a3 : Int32) (s0 : Value) (b : Nat) : Ex mL_law Q 1215 ls (.int a3 :: .int a2 :: .int a1 :: .int a0 :: .ref b :: [s0]) h = (gK h b = 9 ∧ Ex mX9_hungers (Cont mL_law Q 1215 ls 1218 [s0]) 0 [.ref b, .int a0, .int a1, .int a2, .int a3, .retAddr 0] [] h) := Ex_cg (n := 6) (as := [.ref b, .int a0, .int a1, .int a2, .int a3]) rfl rfl
theorem rL_law_1218 (Q : Po) (h : Hp) (ls : List Value) (st : List Value) (x y : Int32) : Ex mL_law Q 1218 ls (.int y :: .int x :: st) h = if x = y then Ex mL_law Q 1514 ls st h else Ex mL_law Q 1221 ls st h := Ex_br rfl rfl
theorem rL_law_1221 (Q : Po) (h : Hp) (ls : List Value) (st : List Value) : Ex mL_law Q 1221 ls st h = Ex mL_law Q 1222 ls (.int 0 :: st) h := Ex_nx rfl rfl
theorem rL_law_1222 (Q : Po) (h : Hp) (ls : List Value) (x : Int32) : Ex mL_law Q 1222 ls [.int x] h = ((x = 0 ∨ x = 1) ∧ Q (.inl (some (.int x))) h) := Ex_rg rfl rfl
theorem rL_law_1223 (Q : Po) (h : Hp) (l0 l2 l3 : Value) (x : Nat) (st : List Value) : Ex mL_law Q 1223 [l0, .ref x, l2, l3] st h = Ex mL_law Q 1224 [l0, .ref x, l2, l3] (.ref x :: st) h := Ex_nx rfl rfl
theorem rL_law_1224 (Q : Po) (h : Hp) (l1 l2 l3 : Value) (x : Nat) (st : List Value) : Ex mL_law Q 1224 [.ref x, l1, l2, l3] st h = Ex mL_law Q 1225 [.ref x, l1, l2, l3] (.ref x :: st) h := Ex_nx rfl rfl
theorem rL_law_1225 (Q : Po) (h : Hp) (l0 l1 l2 : Value) (x : Int32) (st : List Value) : Ex mL_law Q 1225 [l0, l1, l2, .int x] st h = Ex mL_law Q 1226 [l0, l1, l2, .int x] (.int x :: st) h := Ex_nx rfl rfl
theorem rL_law_1226 (Q : Po) (h : Hp) (ls : List Value) (st : List Value) : Ex mL_law Q 1226 ls st h = Ex mL_law Q 1227 ls (.int 1 :: st) h := Ex_nx rfl rfl
theorem rL_law_1227 (Q : Po) (h : Hp) (ls : List Value) (st : List Value) (x y : Int32) : Ex mL_law Q 1227 ls (.int y :: .int x :: st) h = Ex mL_law Q 1228 ls (.int (x + y) :: st) h := Ex_nx rfl rfl
theorem rL_law_1228 (Q : Po) (h : Hp) (ls : List Value) (st : List Value) (a : Nat) (i : Int32) : Ex mL_law Q 1228 ls (.int i :: .ref a :: st) h = ((gK h a = 58 ∧ ¬ (i < 0 ∨ gL h a ≤ i.toNatClampNeg)) ∧ Ex mL_law Q 1229 ls (.int (gI h a i.toNatClampNeg) :: st) h) := Ex_gd rfl rfl
theorem rL_law_1229 (Q : Po) (h : Hp) (l1 l2 l3 : Value) (x : Nat) (st : List Value) : Ex mL_law Q 1229 [.ref x, l1, l2, l3] st h = Ex mL_law Q 1230 [.ref x, l1, l2, l3] (.ref x :: st) h := Ex_nx rfl rfl
theorem rL_law_1230 (Q : Po) (h : Hp) (l0 l1 l2 : Value) (x : Int32) (st : List Value) : Ex mL_law Q 1230 [l0, l1, l2, .int x] st h = Ex mL_law Q 1231 [l0, l1, l2, .int x] (.int x :: st) h := Ex_nx rfl rfl
theorem rL_law_1231 (Q : Po) (h : Hp) (ls : List Value) (st : List Value) : Ex mL_law Q 1231 ls st h = Ex mL_law Q 1232 ls (.int 2 :: st) h := Ex_nx rfl rfl
theorem rL_law_1232 (Q : Po) (h : Hp) (ls : List Value) (st : List Value) (x y : Int32) : Ex mL_law Q 1232 ls (.int y :: .int x :: st) h = Ex mL_law Q 1233 ls (.int (x + y) :: st) h := Ex_nx rfl rfl
theorem rL_law_1233 (Q : Po) (h : Hp) (ls : List Value) (st : List Value) (a : Nat) (i : Int32) : Ex mL_law Q 1233 ls (.int i :: .ref a :: st) h = ((gK h a = 58 ∧ ¬ (i < 0 ∨ gL h a ≤ i.toNatClampNeg)) ∧ Ex mL_law Q 1234 ls (.int (gI h a i.toNatClampNeg) :: st) h) := Ex_gd rfl rfl
theorem rL_law_1234 (Q : Po) (h : Hp) (l1 l2 l3 : Value) (x : Nat) (st : List Value) : Ex mL_law Q 1234 [.ref x, l1, l2, l3] st h = Ex mL_law Q 1235 [.ref x, l1, l2, l3] (.ref x :: st) h := Ex_nx rfl rfl
theorem rL_law_1235 (Q : Po) (h : Hp) (l0 l1 l2 : Value) (x : Int32) (st : List Value) : Ex mL_law Q 1235 [l0, l1, l2, .int x] st h = Ex mL_law Q 1236 [l0, l1, l2, .int x] (.int x :: st) h := Ex_nx rfl rfl
theorem rL_law_1236 (Q : Po) (h : Hp) (ls : List Value) (st : List Value) : Ex mL_law Q 1236 ls st h = Ex mL_law Q 1237 ls (.int 3 :: st) h := Ex_nx rfl rfl
theorem rL_law_1237 (Q : Po) (h : Hp) (ls : List Value) (st : List Value) (x y : Int32) : Ex mL_law Q 1237 ls (.int y :: .int x :: st) h = Ex mL_law Q 1238 ls (.int (x + y) :: st) h := Ex_nx rfl rfl
theorem rL_law_1238 (Q : Po) (h : Hp) (ls : List Value) (st : List Value) (a : Nat) (i : Int32) : Ex mL_law Q 1238 ls (.int i :: .ref a :: st) h = ((gK h a = 58 ∧ ¬ (i < 0 ∨ gL h a ≤ i.toNatClampNeg)) ∧ Ex mL_law Q 1239 ls (.int (gI h a i.toNatClampNeg) :: st) h) := Ex_gd rfl rfl
theorem rL_law_1239 (Q : Po) (h : Hp) (l1 l2 l3 : Value) (x : Nat) (st : List Value) : Ex mL_law Q 1239 [.ref x, l1, l2, l3] st h = Ex mL_law Q 1240 [.ref x, l1, l2, l3] (.ref x :: st) h := Ex_nx rfl rfl
theorem rL_law_1240 (Q : Po) (h : Hp) (l0 l1 l2 : Value) (x : Int32) (st : List Value) : Ex mL_law Q 1240 [l0, l1, l2, .int x] st h = Ex mL_law Q 1241 [l0, l1, l2, .int x] (.int x :: st) h := Ex_nx rfl rfl
theorem rL_law_1241 (Q : Po) (h : Hp) (ls : List Value) (st : List Value) : Ex mL_law Q 1241 ls st h = Ex mL_law Q 1242 ls (.int 4 :: st) h := Ex_nx rfl rfl
theorem rL_law_1242 (Q : Po) (h : Hp) (ls : List Value) (st : List Value) (x y : Int32) : Ex mL_law Q 1242 ls (.int y :: .int x :: st) h = Ex mL_law Q 1243 ls (.int (x + y) :: st) h := Ex_nx rfl rfl
theorem rL_law_1243 (Q : Po) (h : Hp) (ls : List Value) (st : List Value) (a : Nat) (i : Int32) : Ex mL_law Q 1243 ls (.int i :: .ref a :: st) h = ((gK h a = 58 ∧ ¬ (i < 0 ∨ gL h a ≤ i.toNatClampNeg)) ∧ Ex mL_law Q 1244 ls (.int (gI h a i.toNatClampNeg) :: st) h) := Ex_gd rfl rfl
theorem rL_law_1244 (Q : Po) (h : Hp) (ls : List Value) (a0 : Int32) (a1 : Int32) (a2 : Int32) (a3 : Int32) (b : Nat) : Ex mL_law Q 1244 ls (.int a3 :: .int a2 :: .int a1 :: .int a0 :: .ref b :: []) h = (gK h b = 1 ∧ Ex mX0_dark (Cont mL_law Q 1244 ls 1247 []) 0 [.ref b, .int a0, .int a1, .int a2, .int a3, .retAddr 0, .retAddr 0, .retAddr 0, .retAddr 0, .retAddr 0, .retAddr 0, .retAddr 0, .retAddr 0, .retAddr 0] [] h) := Ex_cg (n := 14) (as := [.ref b, .int a0, .int a1, .int a2, .int a3]) rfl rfl
theorem rL_law_1247 (Q : Po) (h : Hp) (l0 l1 l3 : Value) (x : Nat) (st : List Value) : Ex mL_law Q 1247 [l0, l1, .ref x, l3] st h = Ex mL_law Q 1248 [l0, l1, .ref x, l3] (.ref x :: st) h := Ex_nx rfl rfl
theorem rL_law_1248 (Q : Po) (h : Hp) (l1 l2 l3 : Value) (x : Nat) (st : List Value) : Ex mL_law Q 1248 [.ref x, l1, l2, l3] st h = Ex mL_law Q 1249 [.ref x, l1, l2, l3] (.ref x :: st) h := Ex_nx rfl rfl
theorem rL_law_1249 (Q : Po) (h : Hp) (l0 l1 l2 : Value) (x : Int32) (st : List Value) : Ex mL_law Q 1249 [l0, l1, l2, .int x] st h = Ex mL_law Q 1250 [l0, l1, l2, .int x] (.int x :: st) h := Ex_nx rfl rfl
theorem rL_law_1250 (Q : Po) (h : Hp) (ls : List Value) (st : List Value) : Ex mL_law Q 1250 ls st h = Ex mL_law Q 1251 ls (.int 1 :: st) h := Ex_nx rfl rfl
theorem rL_law_1251 (Q : Po) (h : Hp) (ls : List Value) (st : List Value) (x y : Int32) : Ex mL_law Q 1251 ls (.int y :: .int x :: st) h = Ex mL_law Q 1252 ls (.int (x + y) :: st) h := Ex_nx rfl rfl
theorem rL_law_1252 (Q : Po) (h : Hp) (ls : List Value) (st : List Value) (a : Nat) (i : Int32) : Ex mL_law Q 1252 ls (.int i :: .ref a :: st) h = ((gK h a = 58 ∧ ¬ (i < 0 ∨ gL h a ≤ i.toNatClampNeg)) ∧ Ex mL_law Q 1253 ls (.int (gI h a i.toNatClampNeg) :: st) h) := Ex_gd rfl rfl
theorem rL_law_1253 (Q : Po) (h : Hp) (l1 l2 l3 : Value) (x : Nat) (st : List Value) : Ex mL_law Q 1253 [.ref x, l1, l2, l3] st h = Ex mL_law Q 1254 [.ref x, l1, l2, l3] (.ref x :: st) h := Ex_nx rfl rfl
theorem rL_law_1254 (Q : Po) (h : Hp) (l0 l1 l2 : Value) (x : Int32) (st : List Value) : Ex mL_law Q 1254 [l0, l1, l2, .int x] st h = Ex mL_law Q 1255 [l0, l1, l2, .int x] (.int x :: st) h := Ex_nx rfl rfl
theorem rL_law_1255 (Q : Po) (h : Hp) (ls : List Value) (st : List Value) : Ex mL_law Q 1255 ls st h = Ex mL_law Q 1256 ls (.int 2 :: st) h := Ex_nx rfl rfl
theorem rL_law_1256 (Q : Po) (h : Hp) (ls : List Value) (st : List Value) (x y : Int32) : Ex mL_law Q 1256 ls (.int y :: .int x :: st) h = Ex mL_law Q 1257 ls (.int (x + y) :: st) h := Ex_nx rfl rfl
theorem rL_law_1257 (Q : Po) (h : Hp) (ls : List Value) (st : List Value) (a : Nat) (i : Int32) : Ex mL_law Q 1257 ls (.int i :: .ref a :: st) h = ((gK h a = 58 ∧ ¬ (i < 0 ∨ gL h a ≤ i.toNatClampNeg)) ∧ Ex mL_law Q 1258 ls (.int (gI h a i.toNatClampNeg) :: st) h) := Ex_gd rfl rfl
theorem rL_law_1258 (Q : Po) (h : Hp) (l1 l2 l3 : Value) (x : Nat) (st : List Value) : Ex mL_law Q 1258 [.ref x, l1, l2, l3] st h = Ex mL_law Q 1259 [.ref x, l1, l2, l3] (.ref x :: st) h := Ex_nx rfl rfl
theorem rL_law_1259 (Q : Po) (h : Hp) (l0 l1 l2 : Value) (x : Int32) (st : List Value) : Ex mL_law Q 1259 [l0, l1, l2, .int x] st h = Ex mL_law Q 1260 [l0, l1, l2, .int x] (.int x :: st) h := Ex_nx rfl rfl
theorem rL_law_1260 (Q : Po) (h : Hp) (ls : List Value) (st : List Value) : Ex mL_law Q 1260 ls st h = Ex mL_law Q 1261 ls (.int 3 :: st) h := Ex_nx rfl rfl
theorem rL_law_1261 (Q : Po) (h : Hp) (ls : List Value) (st : List Value) (x y : Int32) : Ex mL_law Q 1261 ls (.int y :: .int x :: st) h = Ex mL_law Q 1262 ls (.int (x + y) :: st) h := Ex_nx rfl rfl
theorem rL_law_1262 (Q : Po) (h : Hp) (ls : List Value) (st : List Value) (a : Nat) (i : Int32) : Ex mL_law Q 1262 ls (.int i :: .ref a :: st) h = ((gK h a = 58 ∧ ¬ (i < 0 ∨ gL h a ≤ i.toNatClampNeg)) ∧ Ex mL_law Q 1263 ls (.int (gI h a i.toNatClampNeg) :: st) h) := Ex_gd rfl rfl
theorem rL_law_1263 (Q : Po) (h : Hp) (l1 l2 l3 : Value) (x : Nat) (st : List Value) : Ex mL_law Q 1263 [.ref x, l1, l2, l3] st h = Ex mL_law Q 1264 [.ref x, l1, l2, l3] (.ref x :: st) h := Ex_nx rfl rfl
theorem rL_law_1264 (Q : Po) (h : Hp) (l0 l1 l2 : Value) (x : Int32) (st : List Value) : Ex mL_law Q 1264 [l0, l1, l2, .int x] st h = Ex mL_law Q 1265 [l0, l1, l2, .int x] (.int x :: st) h := Ex_nx rfl rfl
theorem rL_law_1265 (Q : Po) (h : Hp) (ls : List Value) (st : List Value) : Ex mL_law Q 1265 ls st h = Ex mL_law Q 1266 ls (.int 4 :: st) h := Ex_nx rfl rfl
theorem rL_law_1266 (Q : Po) (h : Hp) (ls : List Value) (st : List Value) (x y : Int32) : Ex mL_law Q 1266 ls (.int y :: .int x :: st) h = Ex mL_law Q 1267 ls (.int (x + y) :: st) h := Ex_nx rfl rfl
theorem rL_law_1267 (Q : Po) (h : Hp) (ls : List Value) (st : List Value) (a : Nat) (i : Int32) : Ex mL_law Q 1267 ls (.int i :: .ref a :: st) h = ((gK h a = 58 ∧ ¬ (i < 0 ∨ gL h a ≤ i.toNatClampNeg)) ∧ Ex mL_law Q 1268 ls (.int (gI h a i.toNatClampNeg) :: st) h) := Ex_gd rfl rfl
theorem rL_law_1268 (Q : Po) (h : Hp) (ls : List Value) (a0 : Int32) (a1 : Int32) (a2 : Int32) (a3 : Int32) (s0 : Value) (b : Nat) : Ex mL_law Q 1268 ls (.int a3 :: .int a2 :: .int a1 :: .int a0 :: .ref b :: [s0]) h = (gK h b = 9 ∧ Ex mX9_dark (Cont mL_law Q 1268 ls 1271 [s0]) 0 [.ref b, .int a0, .int a1, .int a2, .int a3, .retAddr 0, .retAddr 0, .retAddr 0, .retAddr 0, .retAddr 0, .retAddr 0, .retAddr 0, .retAddr 0, .retAddr 0, .retAddr 0, .retAddr 0] [] h) := Ex_cg (n := 16) (as := [.ref b, .int a0, .int a1, .int a2, .int a3]) rfl rfl
theorem rL_law_1271 (Q : Po) (h : Hp) (ls : List Value) (st : List Value) (x y : Int64) : Ex mL_law Q 1271 ls (.long y :: .long x :: st) h = Ex mL_law Q 1272 ls (.int (lg_cmp x y) :: st) h := Ex_nx rfl rfl
theorem rL_law_1272 (Q : Po) (h : Hp) (ls : List Value) (st : List Value) (x : Int32) : Ex mL_law Q 1272 ls (.int x :: st) h = if x = 0 then Ex mL_law Q 1514 ls st h else Ex mL_law Q 1275 ls st h := Ex_br rfl rfl
theorem rL_law_1275 (Q : Po) (h : Hp) (ls : List Value) (st : List Value) : Ex mL_law Q 1275 ls st h = Ex mL_law Q 1276 ls (.int 0 :: st) h := Ex_nx rfl rfl
theorem rL_law_1276 (Q : Po) (h : Hp) (ls : List Value) (x : Int32) : Ex mL_law Q 1276 ls [.int x] h = ((x = 0 ∨ x = 1) ∧ Q (.inl (some (.int x))) h) := Ex_rg rfl rfl
theorem rL_law_1277 (Q : Po) (h : Hp) (l0 l2 l3 : Value) (x : Nat) (st : List Value) : Ex mL_law Q 1277 [l0, .ref x, l2, l3] st h = Ex mL_law Q 1278 [l0, .ref x, l2, l3] (.ref x :: st) h := Ex_nx rfl rfl
theorem rL_law_1278 (Q : Po) (h : Hp) (l1 l2 l3 : Value) (x : Nat) (st : List Value) : Ex mL_law Q 1278 [.ref x, l1, l2, l3] st h = Ex mL_law Q 1279 [.ref x, l1, l2, l3] (.ref x :: st) h := Ex_nx rfl rfl
theorem rL_law_1279 (Q : Po) (h : Hp) (l0 l1 l2 : Value) (x : Int32) (st : List Value) : Ex mL_law Q 1279 [l0, l1, l2, .int x] st h = Ex mL_law Q 1280 [l0, l1, l2, .int x] (.int x :: st) h := Ex_nx rfl rfl
theorem rL_law_1280 (Q : Po) (h : Hp) (ls : List Value) (st : List Value) : Ex mL_law Q 1280 ls st h = Ex mL_law Q 1281 ls (.int 1 :: st) h := Ex_nx rfl rfl
theorem rL_law_1281 (Q : Po) (h : Hp) (ls : List Value) (st : List Value) (x y : Int32) : Ex mL_law Q 1281 ls (.int y :: .int x :: st) h = Ex mL_law Q 1282 ls (.int (x + y) :: st) h := Ex_nx rfl rfl
theorem rL_law_1282 (Q : Po) (h : Hp) (ls : List Value) (st : List Value) (a : Nat) (i : Int32) : Ex mL_law Q 1282 ls (.int i :: .ref a :: st) h = ((gK h a = 58 ∧ ¬ (i < 0 ∨ gL h a ≤ i.toNatClampNeg)) ∧ Ex mL_law Q 1283 ls (.int (gI h a i.toNatClampNeg) :: st) h) := Ex_gd rfl rfl
theorem rL_law_1283 (Q : Po) (h : Hp) (l1 l2 l3 : Value) (x : Nat) (st : List Value) : Ex mL_law Q 1283 [.ref x, l1, l2, l3] st h = Ex mL_law Q 1284 [.ref x, l1, l2, l3] (.ref x :: st) h := Ex_nx rfl rfl
theorem rL_law_1284 (Q : Po) (h : Hp) (l0 l1 l2 : Value) (x : Int32) (st : List Value) : Ex mL_law Q 1284 [l0, l1, l2, .int x] st h = Ex mL_law Q 1285 [l0, l1, l2, .int x] (.int x :: st) h := Ex_nx rfl rfl
theorem rL_law_1285 (Q : Po) (h : Hp) (ls : List Value) (st : List Value) : Ex mL_law Q 1285 ls st h = Ex mL_law Q 1286 ls (.int 2 :: st) h := Ex_nx rfl rfl
theorem rL_law_1286 (Q : Po) (h : Hp) (ls : List Value) (st : List Value) (x y : Int32) : Ex mL_law Q 1286 ls (.int y :: .int x :: st) h = Ex mL_law Q 1287 ls (.int (x + y) :: st) h := Ex_nx rfl rfl
theorem rL_law_1287 (Q : Po) (h : Hp) (ls : List Value) (st : List Value) (a : Nat) (i : Int32) : Ex mL_law Q 1287 ls (.int i :: .ref a :: st) h = ((gK h a = 58 ∧ ¬ (i < 0 ∨ gL h a ≤ i.toNatClampNeg)) ∧ Ex mL_law Q 1288 ls (.int (gI h a i.toNatClampNeg) :: st) h) := Ex_gd rfl rfl
theorem rL_law_1288 (Q : Po) (h : Hp) (l1 l2 l3 : Value) (x : Nat) (st : List Value) : Ex mL_law Q 1288 [.ref x, l1, l2, l3] st h = Ex mL_law Q 1289 [.ref x, l1, l2, l3] (.ref x :: st) h := Ex_nx rfl rfl
theorem rL_law_1289 (Q : Po) (h : Hp) (l0 l1 l2 : Value) (x : Int32) (st : List Value) : Ex mL_law Q 1289 [l0, l1, l2, .int x] st h = Ex mL_law Q 1290 [l0, l1, l2, .int x] (.int x :: st) h := Ex_nx rfl rfl
theorem rL_law_1290 (Q : Po) (h : Hp) (ls : List Value) (st : List Value) : Ex mL_law Q 1290 ls st h = Ex mL_law Q 1291 ls (.int 3 :: st) h := Ex_nx rfl rfl
theorem rL_law_1291 (Q : Po) (h : Hp) (ls : List Value) (st : List Value) (x y : Int32) : Ex mL_law Q 1291 ls (.int y :: .int x :: st) h = Ex mL_law Q 1292 ls (.int (x + y) :: st) h := Ex_nx rfl rfl
theorem rL_law_1292 (Q : Po) (h : Hp) (ls : List Value) (st : List Value) (a : Nat) (i : Int32) : Ex mL_law Q 1292 ls (.int i :: .ref a :: st) h = ((gK h a = 58 ∧ ¬ (i < 0 ∨ gL h a ≤ i.toNatClampNeg)) ∧ Ex mL_law Q 1293 ls (.int (gI h a i.toNatClampNeg) :: st) h) := Ex_gd rfl rfl
theorem rL_law_1293 (Q : Po) (h : Hp) (ls : List Value) (a0 : Int32) (a1 : Int32) (a2 : Int32) (b : Nat) : Ex mL_law Q 1293 ls (.int a2 :: .int a1 :: .int a0 :: .ref b :: []) h = (gK h b = 1 ∧ Ex mX0_drawn (Cont mL_law Q 1293 ls 1296 []) 0 [.ref b, .int a0, .int a1, .int a2, .retAddr 0, .retAddr 0, .retAddr 0, .retAddr 0] [] h) := Ex_cg (n := 8) (as := [.ref b, .int a0, .int a1, .int a2]) rfl rfl
theorem rL_law_1296 (Q : Po) (h : Hp) (l0 l1 l3 : Value) (x : Nat) (st : List Value) : Ex mL_law Q 1296 [l0, l1, .ref x, l3] st h = Ex mL_law Q 1297 [l0, l1, .ref x, l3] (.ref x :: st) h := Ex_nx rfl rfl
theorem rL_law_1297 (Q : Po) (h : Hp) (l1 l2 l3 : Value) (x : Nat) (st : List Value) : Ex mL_law Q 1297 [.ref x, l1, l2, l3] st h = Ex mL_law Q 1298 [.ref x, l1, l2, l3] (.ref x :: st) h := Ex_nx rfl rfl
theorem rL_law_1298 (Q : Po) (h : Hp) (l0 l1 l2 : Value) (x : Int32) (st : List Value) : Ex mL_law Q 1298 [l0, l1, l2, .int x] st h = Ex mL_law Q 1299 [l0, l1, l2, .int x] (.int x :: st) h := Ex_nx rfl rfl
theorem rL_law_1299 (Q : Po) (h : Hp) (ls : List Value) (st : List Value) : Ex mL_law Q 1299 ls st h = Ex mL_law Q 1300 ls (.int 1 :: st) h := Ex_nx rfl rfl
theorem rL_law_1300 (Q : Po) (h : Hp) (ls : List Value) (st : List Value) (x y : Int32) : Ex mL_law Q 1300 ls (.int y :: .int x :: st) h = Ex mL_law Q 1301 ls (.int (x + y) :: st) h := Ex_nx rfl rfl
theorem rL_law_1301 (Q : Po) (h : Hp) (ls : List Value) (st : List Value) (a : Nat) (i : Int32) : Ex mL_law Q 1301 ls (.int i :: .ref a :: st) h = ((gK h a = 58 ∧ ¬ (i < 0 ∨ gL h a ≤ i.toNatClampNeg)) ∧ Ex mL_law Q 1302 ls (.int (gI h a i.toNatClampNeg) :: st) h) := Ex_gd rfl rfl
theorem rL_law_1302 (Q : Po) (h : Hp) (l1 l2 l3 : Value) (x : Nat) (st : List Value) : Ex mL_law Q 1302 [.ref x, l1, l2, l3] st h = Ex mL_law Q 1303 [.ref x, l1, l2, l3] (.ref x :: st) h := Ex_nx rfl rfl
theorem rL_law_1303 (Q : Po) (h : Hp) (l0 l1 l2 : Value) (x : Int32) (st : List Value) : Ex mL_law Q 1303 [l0, l1, l2, .int x] st h = Ex mL_law Q 1304 [l0, l1, l2, .int x] (.int x :: st) h := Ex_nx rfl rfl
theorem rL_law_1304 (Q : Po) (h : Hp) (ls : List Value) (st : List Value) : Ex mL_law Q 1304 ls st h = Ex mL_law Q 1305 ls (.int 2 :: st) h := Ex_nx rfl rfl
theorem rL_law_1305 (Q : Po) (h : Hp) (ls : List Value) (st : List Value) (x y : Int32) : Ex mL_law Q 1305 ls (.int y :: .int x :: st) h = Ex mL_law Q 1306 ls (.int (x + y) :: st) h := Ex_nx rfl rfl
theorem rL_law_1306 (Q : Po) (h : Hp) (ls : List Value) (st : List Value) (a : Nat) (i : Int32) : Ex mL_law Q 1306 ls (.int i :: .ref a :: st) h = ((gK h a = 58 ∧ ¬ (i < 0 ∨ gL h a ≤ i.toNatClampNeg)) ∧ Ex mL_law Q 1307 ls (.int (gI h a i.toNatClampNeg) :: st) h) := Ex_gd rfl rfl
theorem rL_law_1307 (Q : Po) (h : Hp) (l1 l2 l3 : Value) (x : Nat) (st : List Value) : Ex mL_law Q 1307 [.ref x, l1, l2, l3] st h = Ex mL_law Q 1308 [.ref x, l1, l2, l3] (.ref x :: st) h := Ex_nx rfl rfl
theorem rL_law_1308 (Q : Po) (h : Hp) (l0 l1 l2 : Value) (x : Int32) (st : List Value) : Ex mL_law Q 1308 [l0, l1, l2, .int x] st h = Ex mL_law Q 1309 [l0, l1, l2, .int x] (.int x :: st) h := Ex_nx rfl rfl
theorem rL_law_1309 (Q : Po) (h : Hp) (ls : List Value) (st : List Value) : Ex mL_law Q 1309 ls st h = Ex mL_law Q 1310 ls (.int 3 :: st) h := Ex_nx rfl rfl
theorem rL_law_1310 (Q : Po) (h : Hp) (ls : List Value) (st : List Value) (x y : Int32) : Ex mL_law Q 1310 ls (.int y :: .int x :: st) h = Ex mL_law Q 1311 ls (.int (x + y) :: st) h := Ex_nx rfl rfl
theorem rL_law_1311 (Q : Po) (h : Hp) (ls : List Value) (st : List Value) (a : Nat) (i : Int32) : Ex mL_law Q 1311 ls (.int i :: .ref a :: st) h = ((gK h a = 58 ∧ ¬ (i < 0 ∨ gL h a ≤ i.toNatClampNeg)) ∧ Ex mL_law Q 1312 ls (.int (gI h a i.toNatClampNeg) :: st) h) := Ex_gd rfl rfl
theorem rL_law_1312 (Q : Po) (h : Hp) (ls : List Value) (a0 : Int32) (a1 : Int32) (a2 : Int32) (s0 : Value) (b : Nat) : Ex mL_law Q 1312 ls (.int a2 :: .int a1 :: .int a0 :: .ref b :: [s0]) h = (gK h b = 9 ∧ Ex mX9_drawn (Cont mL_law Q 1312 ls 1315 [s0]) 0 [.ref b, .int a0, .int a1, .int a2, .retAddr 0, .retAddr 0, .retAddr 0, .retAddr 0] [] h) := Ex_cg (n := 8) (as := [.ref b, .int a0, .int a1, .int a2]) rfl rfl
theorem rL_law_1315 (Q : Po) (h : Hp) (ls : List Value) (st : List Value) (x y : Int32) : Ex mL_law Q 1315 ls (.int y :: .int x :: st) h = if x = y then Ex mL_law Q 1514 ls st h else Ex mL_law Q 1318 ls st h := Ex_br rfl rfl
theorem rL_law_1318 (Q : Po) (h : Hp) (ls : List Value) (st : List Value) : Ex mL_law Q 1318 ls st h = Ex mL_law Q 1319 ls (.int 0 :: st) h := Ex_nx rfl rfl
theorem rL_law_1319 (Q : Po) (h : Hp) (ls : List Value) (x : Int32) : Ex mL_law Q 1319 ls [.int x] h = ((x = 0 ∨ x = 1) ∧ Q (.inl (some (.int x))) h) := Ex_rg rfl rfl
theorem rL_law_1320 (Q : Po) (h : Hp) (l0 l2 l3 : Value) (x : Nat) (st : List Value) : Ex mL_law Q 1320 [l0, .ref x, l2, l3] st h = Ex mL_law Q 1321 [l0, .ref x, l2, l3] (.ref x :: st) h := Ex_nx rfl rfl
theorem rL_law_1321 (Q : Po) (h : Hp) (l1 l2 l3 : Value) (x : Nat) (st : List Value) : Ex mL_law Q 1321 [.ref x, l1, l2, l3] st h = Ex mL_law Q 1322 [.ref x, l1, l2, l3] (.ref x :: st) h := Ex_nx rfl rfl
theorem rL_law_1322 (Q : Po) (h : Hp) (l0 l1 l2 : Value) (x : Int32) (st : List Value) : Ex mL_law Q 1322 [l0, l1, l2, .int x] st h = Ex mL_law Q 1323 [l0, l1, l2, .int x] (.int x :: st) h := Ex_nx rfl rfl
theorem rL_law_1323 (Q : Po) (h : Hp) (ls : List Value) (st : List Value) : Ex mL_law Q 1323 ls st h = Ex mL_law Q 1324 ls (.int 1 :: st) h := Ex_nx rfl rfl
theorem rL_law_1324 (Q : Po) (h : Hp) (ls : List Value) (st : List Value) (x y : Int32) : Ex mL_law Q 1324 ls (.int y :: .int x :: st) h = Ex mL_law Q 1325 ls (.int (x + y) :: st) h := Ex_nx rfl rfl
theorem rL_law_1325 (Q : Po) (h : Hp) (ls : List Value) (st : List Value) (a : Nat) (i : Int32) : Ex mL_law Q 1325 ls (.int i :: .ref a :: st) h = ((gK h a = 58 ∧ ¬ (i < 0 ∨ gL h a ≤ i.toNatClampNeg)) ∧ Ex mL_law Q 1326 ls (.int (gI h a i.toNatClampNeg) :: st) h) := Ex_gd rfl rfl
theorem rL_law_1326 (Q : Po) (h : Hp) (ls : List Value) (a0 : Int32) (b : Nat) : Ex mL_law Q 1326 ls (.int a0 :: .ref b :: []) h = (gK h b = 1 ∧ Ex mX0_image (Cont mL_law Q 1326 ls 1329 []) 0 [.ref b, .int a0] [] h) := Ex_cg (n := 2) (as := [.ref b, .int a0]) rfl rfl
theorem rL_law_1329 (Q : Po) (h : Hp) (l0 l1 l3 : Value) (x : Nat) (st : List Value) : Ex mL_law Q 1329 [l0, l1, .ref x, l3] st h = Ex mL_law Q 1330 [l0, l1, .ref x, l3] (.ref x :: st) h := Ex_nx rfl rfl
theorem rL_law_1330 (Q : Po) (h : Hp) (l1 l2 l3 : Value) (x : Nat) (st : List Value) : Ex mL_law Q 1330 [.ref x, l1, l2, l3] st h = Ex mL_law Q 1331 [.ref x, l1, l2, l3] (.ref x :: st) h := Ex_nx rfl rfl
theorem rL_law_1331 (Q : Po) (h : Hp) (l0 l1 l2 : Value) (x : Int32) (st : List Value) : Ex mL_law Q 1331 [l0, l1, l2, .int x] st h = Ex mL_law Q 1332 [l0, l1, l2, .int x] (.int x :: st) h := Ex_nx rfl rfl
theorem rL_law_1332 (Q : Po) (h : Hp) (ls : List Value) (st : List Value) : Ex mL_law Q 1332 ls st h = Ex mL_law Q 1333 ls (.int 1 :: st) h := Ex_nx rfl rfl
theorem rL_law_1333 (Q : Po) (h : Hp) (ls : List Value) (st : List Value) (x y : Int32) : Ex mL_law Q 1333 ls (.int y :: .int x :: st) h = Ex mL_law Q 1334 ls (.int (x + y) :: st) h := Ex_nx rfl rfl
theorem rL_law_1334 (Q : Po) (h : Hp) (ls : List Value) (st : List Value) (a : Nat) (i : Int32) : Ex mL_law Q 1334 ls (.int i :: .ref a :: st) h = ((gK h a = 58 ∧ ¬ (i < 0 ∨ gL h a ≤ i.toNatClampNeg)) ∧ Ex mL_law Q 1335 ls (.int (gI h a i.toNatClampNeg) :: st) h) := Ex_gd rfl rfl
theorem rL_law_1335 (Q : Po) (h : Hp) (ls : List Value) (a0 : Int32) (s0 : Value) (b : Nat) : Ex mL_law Q 1335 ls (.int a0 :: .ref b :: [s0]) h = (gK h b = 9 ∧ Ex mX9_image (Cont mL_law Q 1335 ls 1338 [s0]) 0 [.ref b, .int a0, .retAddr 0] [] h) := Ex_cg (n := 3) (as := [.ref b, .int a0]) rfl rfl
theorem rL_law_1338 (Q : Po) (h : Hp) (ls : List Value) (st : List Value) (x y : Int32) : Ex mL_law Q 1338 ls (.int y :: .int x :: st) h = if x = y then Ex mL_law Q 1514 ls st h else Ex mL_law Q 1341 ls st h := Ex_br rfl rfl
theorem rL_law_1341 (Q : Po) (h : Hp) (ls : List Value) (st : List Value) : Ex mL_law Q 1341 ls st h = Ex mL_law Q 1342 ls (.int 0 :: st) h := Ex_nx rfl rfl
theorem rL_law_1342 (Q : Po) (h : Hp) (ls : List Value) (x : Int32) : Ex mL_law Q 1342 ls [.int x] h = ((x = 0 ∨ x = 1) ∧ Q (.inl (some (.int x))) h) := Ex_rg rfl rfl
theorem rL_law_1343 (Q : Po) (h : Hp) (l0 l2 l3 : Value) (x : Nat) (st : List Value) : Ex mL_law Q 1343 [l0, .ref x, l2, l3] st h = Ex mL_law Q 1344 [l0, .ref x, l2, l3] (.ref x :: st) h := Ex_nx rfl rfl
theorem rL_law_1344 (Q : Po) (h : Hp) (l1 l2 l3 : Value) (x : Nat) (st : List Value) : Ex mL_law Q 1344 [.ref x, l1, l2, l3] st h = Ex mL_law Q 1345 [.ref x, l1, l2, l3] (.ref x :: st) h := Ex_nx rfl rfl
theorem rL_law_1345 (Q : Po) (h : Hp) (l0 l1 l2 : Value) (x : Int32) (st : List Value) : Ex mL_law Q 1345 [l0, l1, l2, .int x] st h = Ex mL_law Q 1346 [l0, l1, l2, .int x] (.int x :: st) h := Ex_nx rfl rfl
theorem rL_law_1346 (Q : Po) (h : Hp) (ls : List Value) (st : List Value) : Ex mL_law Q 1346 ls st h = Ex mL_law Q 1347 ls (.int 1 :: st) h := Ex_nx rfl rfl
theorem rL_law_1347 (Q : Po) (h : Hp) (ls : List Value) (st : List Value) (x y : Int32) : Ex mL_law Q 1347 ls (.int y :: .int x :: st) h = Ex mL_law Q 1348 ls (.int (x + y) :: st) h := Ex_nx rfl rfl
theorem rL_law_1348 (Q : Po) (h : Hp) (ls : List Value) (st : List Value) (a : Nat) (i : Int32) : Ex mL_law Q 1348 ls (.int i :: .ref a :: st) h = ((gK h a = 58 ∧ ¬ (i < 0 ∨ gL h a ≤ i.toNatClampNeg)) ∧ Ex mL_law Q 1349 ls (.int (gI h a i.toNatClampNeg) :: st) h) := Ex_gd rfl rfl
theorem rL_law_1349 (Q : Po) (h : Hp) (ls : List Value) (a0 : Int32) (b : Nat) : Ex mL_law Q 1349 ls (.int a0 :: .ref b :: []) h = (gK h b = 1 ∧ Ex mX0_restore (Cont mL_law Q 1349 ls 1352 []) 0 [.ref b, .int a0] [] h) := Ex_cg (n := 2) (as := [.ref b, .int a0]) rfl rfl
theorem rL_law_1352 (Q : Po) (h : Hp) (l0 l1 l3 : Value) (x : Nat) (st : List Value) : Ex mL_law Q 1352 [l0, l1, .ref x, l3] st h = Ex mL_law Q 1353 [l0, l1, .ref x, l3] (.ref x :: st) h := Ex_nx rfl rfl
theorem rL_law_1353 (Q : Po) (h : Hp) (l1 l2 l3 : Value) (x : Nat) (st : List Value) : Ex mL_law Q 1353 [.ref x, l1, l2, l3] st h = Ex mL_law Q 1354 [.ref x, l1, l2, l3] (.ref x :: st) h := Ex_nx rfl rfl
theorem rL_law_1354 (Q : Po) (h : Hp) (l0 l1 l2 : Value) (x : Int32) (st : List Value) : Ex mL_law Q 1354 [l0, l1, l2, .int x] st h = Ex mL_law Q 1355 [l0, l1, l2, .int x] (.int x :: st) h := Ex_nx rfl rfl
theorem rL_law_1355 (Q : Po) (h : Hp) (ls : List Value) (st : List Value) : Ex mL_law Q 1355 ls st h = Ex mL_law Q 1356 ls (.int 1 :: st) h := Ex_nx rfl rfl
theorem rL_law_1356 (Q : Po) (h : Hp) (ls : List Value) (st : List Value) (x y : Int32) : Ex mL_law Q 1356 ls (.int y :: .int x :: st) h = Ex mL_law Q 1357 ls (.int (x + y) :: st) h := Ex_nx rfl rfl
theorem rL_law_1357 (Q : Po) (h : Hp) (ls : List Value) (st : List Value) (a : Nat) (i : Int32) : Ex mL_law Q 1357 ls (.int i :: .ref a :: st) h = ((gK h a = 58 ∧ ¬ (i < 0 ∨ gL h a ≤ i.toNatClampNeg)) ∧ Ex mL_law Q 1358 ls (.int (gI h a i.toNatClampNeg) :: st) h) := Ex_gd rfl rfl
theorem rL_law_1358 (Q : Po) (h : Hp) (ls : List Value) (a0 : Int32) (s0 : Value) (b : Nat) : Ex mL_law Q 1358 ls (.int a0 :: .ref b :: [s0]) h = (gK h b = 9 ∧ Ex mX9_restore (Cont mL_law Q 1358 ls 1361 [s0]) 0 [.ref b, .int a0, .retAddr 0] [] h) := Ex_cg (n := 3) (as := [.ref b, .int a0]) rfl rfl
theorem rL_law_1361 (Q : Po) (h : Hp) (ls : List Value) (st : List Value) (x y : Int32) : Ex mL_law Q 1361 ls (.int y :: .int x :: st) h = if x = y then Ex mL_law Q 1514 ls st h else Ex mL_law Q 1364 ls st h := Ex_br rfl rfl
theorem rL_law_1364 (Q : Po) (h : Hp) (ls : List Value) (st : List Value) : Ex mL_law Q 1364 ls st h = Ex mL_law Q 1365 ls (.int 0 :: st) h := Ex_nx rfl rfl
theorem rL_law_1365 (Q : Po) (h : Hp) (ls : List Value) (x : Int32) : Ex mL_law Q 1365 ls [.int x] h = ((x = 0 ∨ x = 1) ∧ Q (.inl (some (.int x))) h) := Ex_rg rfl rfl
theorem rL_law_1366 (Q : Po) (h : Hp) (l0 l2 l3 : Value) (x : Nat) (st : List Value) : Ex mL_law Q 1366 [l0, .ref x, l2, l3] st h = Ex mL_law Q 1367 [l0, .ref x, l2, l3] (.ref x :: st) h := Ex_nx rfl rfl
theorem rL_law_1367 (Q : Po) (h : Hp) (l1 l2 l3 : Value) (x : Nat) (st : List Value) : Ex mL_law Q 1367 [.ref x, l1, l2, l3] st h = Ex mL_law Q 1368 [.ref x, l1, l2, l3] (.ref x :: st) h := Ex_nx rfl rfl
theorem rL_law_1368 (Q : Po) (h : Hp) (l0 l1 l2 : Value) (x : Int32) (st : List Value) : Ex mL_law Q 1368 [l0, l1, l2, .int x] st h = Ex mL_law Q 1369 [l0, l1, l2, .int x] (.int x :: st) h := Ex_nx rfl rfl
theorem rL_law_1369 (Q : Po) (h : Hp) (ls : List Value) (st : List Value) : Ex mL_law Q 1369 ls st h = Ex mL_law Q 1370 ls (.int 1 :: st) h := Ex_nx rfl rfl
theorem rL_law_1370 (Q : Po) (h : Hp) (ls : List Value) (st : List Value) (x y : Int32) : Ex mL_law Q 1370 ls (.int y :: .int x :: st) h = Ex mL_law Q 1371 ls (.int (x + y) :: st) h := Ex_nx rfl rfl
theorem rL_law_1371 (Q : Po) (h : Hp) (ls : List Value) (st : List Value) (a : Nat) (i : Int32) : Ex mL_law Q 1371 ls (.int i :: .ref a :: st) h = ((gK h a = 58 ∧ ¬ (i < 0 ∨ gL h a ≤ i.toNatClampNeg)) ∧ Ex mL_law Q 1372 ls (.int (gI h a i.toNatClampNeg) :: st) h) := Ex_gd rfl rfl
theorem rL_law_1372 (Q : Po) (h : Hp) (ls : List Value) (a0 : Int32) (b : Nat) : Ex mL_law Q 1372 ls (.int a0 :: .ref b :: []) h = (gK h b = 1 ∧ Ex mX0_kind (Cont mL_law Q 1372 ls 1375 []) 0 [.ref b, .int a0] [] h) := Ex_cg (n := 2) (as := [.ref b, .int a0]) rfl rfl
theorem rL_law_1375 (Q : Po) (h : Hp) (l0 l1 l3 : Value) (x : Nat) (st : List Value) : Ex mL_law Q 1375 [l0, l1, .ref x, l3] st h = Ex mL_law Q 1376 [l0, l1, .ref x, l3] (.ref x :: st) h := Ex_nx rfl rfl
theorem rL_law_1376 (Q : Po) (h : Hp) (l1 l2 l3 : Value) (x : Nat) (st : List Value) : Ex mL_law Q 1376 [.ref x, l1, l2, l3] st h = Ex mL_law Q 1377 [.ref x, l1, l2, l3] (.ref x :: st) h := Ex_nx rfl rfl
theorem rL_law_1377 (Q : Po) (h : Hp) (l0 l1 l2 : Value) (x : Int32) (st : List Value) : Ex mL_law Q 1377 [l0, l1, l2, .int x] st h = Ex mL_law Q 1378 [l0, l1, l2, .int x] (.int x :: st) h := Ex_nx rfl rfl
theorem rL_law_1378 (Q : Po) (h : Hp) (ls : List Value) (st : List Value) : Ex mL_law Q 1378 ls st h = Ex mL_law Q 1379 ls (.int 1 :: st) h := Ex_nx rfl rfl
theorem rL_law_1379 (Q : Po) (h : Hp) (ls : List Value) (st : List Value) (x y : Int32) : Ex mL_law Q 1379 ls (.int y :: .int x :: st) h = Ex mL_law Q 1380 ls (.int (x + y) :: st) h := Ex_nx rfl rfl
theorem rL_law_1380 (Q : Po) (h : Hp) (ls : List Value) (st : List Value) (a : Nat) (i : Int32) : Ex mL_law Q 1380 ls (.int i :: .ref a :: st) h = ((gK h a = 58 ∧ ¬ (i < 0 ∨ gL h a ≤ i.toNatClampNeg)) ∧ Ex mL_law Q 1381 ls (.int (gI h a i.toNatClampNeg) :: st) h) := Ex_gd rfl rfl
theorem rL_law_1381 (Q : Po) (h : Hp) (ls : List Value) (a0 : Int32) (s0 : Value) (b : Nat) : Ex mL_law Q 1381 ls (.int a0 :: .ref b :: [s0]) h = (gK h b = 9 ∧ Ex mX9_kind (Cont mL_law Q 1381 ls 1384 [s0]) 0 [.ref b, .int a0] [] h) := Ex_cg (n := 2) (as := [.ref b, .int a0]) rfl rfl
theorem rL_law_1384 (Q : Po) (h : Hp) (ls : List Value) (st : List Value) (x y : Int32) : Ex mL_law Q 1384 ls (.int y :: .int x :: st) h = if x = y then Ex mL_law Q 1514 ls st h else Ex mL_law Q 1387 ls st h := Ex_br rfl rfl
theorem rL_law_1387 (Q : Po) (h : Hp) (ls : List Value) (st : List Value) : Ex mL_law Q 1387 ls st h = Ex mL_law Q 1388 ls (.int 0 :: st) h := Ex_nx rfl rfl
theorem rL_law_1388 (Q : Po) (h : Hp) (ls : List Value) (x : Int32) : Ex mL_law Q 1388 ls [.int x] h = ((x = 0 ∨ x = 1) ∧ Q (.inl (some (.int x))) h) := Ex_rg rfl rfl
theorem rL_law_1389 (Q : Po) (h : Hp) (l0 l2 l3 : Value) (x : Nat) (st : List Value) : Ex mL_law Q 1389 [l0, .ref x, l2, l3] st h = Ex mL_law Q 1390 [l0, .ref x, l2, l3] (.ref x :: st) h := Ex_nx rfl rfl
theorem rL_law_1390 (Q : Po) (h : Hp) (l1 l2 l3 : Value) (x : Nat) (st : List Value) : Ex mL_law Q 1390 [.ref x, l1, l2, l3] st h = Ex mL_law Q 1391 [.ref x, l1, l2, l3] (.ref x :: st) h := Ex_nx rfl rfl
theorem rL_law_1391 (Q : Po) (h : Hp) (l0 l1 l2 : Value) (x : Int32) (st : List Value) : Ex mL_law Q 1391 [l0, l1, l2, .int x] st h = Ex mL_law Q 1392 [l0, l1, l2, .int x] (.int x :: st) h := Ex_nx rfl rfl
theorem rL_law_1392 (Q : Po) (h : Hp) (ls : List Value) (st : List Value) : Ex mL_law Q 1392 ls st h = Ex mL_law Q 1393 ls (.int 1 :: st) h := Ex_nx rfl rfl
theorem rL_law_1393 (Q : Po) (h : Hp) (ls : List Value) (st : List Value) (x y : Int32) : Ex mL_law Q 1393 ls (.int y :: .int x :: st) h = Ex mL_law Q 1394 ls (.int (x + y) :: st) h := Ex_nx rfl rfl
theorem rL_law_1394 (Q : Po) (h : Hp) (ls : List Value) (st : List Value) (a : Nat) (i : Int32) : Ex mL_law Q 1394 ls (.int i :: .ref a :: st) h = ((gK h a = 58 ∧ ¬ (i < 0 ∨ gL h a ≤ i.toNatClampNeg)) ∧ Ex mL_law Q 1395 ls (.int (gI h a i.toNatClampNeg) :: st) h) := Ex_gd rfl rfl
theorem rL_law_1395 (Q : Po) (h : Hp) (l1 l2 l3 : Value) (x : Nat) (st : List Value) : Ex mL_law Q 1395 [.ref x, l1, l2, l3] st h = Ex mL_law Q 1396 [.ref x, l1, l2, l3] (.ref x :: st) h := Ex_nx rfl rfl
theorem rL_law_1396 (Q : Po) (h : Hp) (l0 l1 l2 : Value) (x : Int32) (st : List Value) : Ex mL_law Q 1396 [l0, l1, l2, .int x] st h = Ex mL_law Q 1397 [l0, l1, l2, .int x] (.int x :: st) h := Ex_nx rfl rfl
theorem rL_law_1397 (Q : Po) (h : Hp) (ls : List Value) (st : List Value) : Ex mL_law Q 1397 ls st h = Ex mL_law Q 1398 ls (.int 2 :: st) h := Ex_nx rfl rfl
theorem rL_law_1398 (Q : Po) (h : Hp) (ls : List Value) (st : List Value) (x y : Int32) : Ex mL_law Q 1398 ls (.int y :: .int x :: st) h = Ex mL_law Q 1399 ls (.int (x + y) :: st) h := Ex_nx rfl rfl
theorem rL_law_1399 (Q : Po) (h : Hp) (ls : List Value) (st : List Value) (a : Nat) (i : Int32) : Ex mL_law Q 1399 ls (.int i :: .ref a :: st) h = ((gK h a = 58 ∧ ¬ (i < 0 ∨ gL h a ≤ i.toNatClampNeg)) ∧ Ex mL_law Q 1400 ls (.int (gI h a i.toNatClampNeg) :: st) h) := Ex_gd rfl rfl
theorem rL_law_1400 (Q : Po) (h : Hp) (ls : List Value) (a0 : Int32) (a1 : Int32) (b : Nat) : Ex mL_law Q 1400 ls (.int a1 :: .int a0 :: .ref b :: []) h = (gK h b = 1 ∧ Ex mX0_as (Cont mL_law Q 1400 ls 1403 []) 0 [.ref b, .int a0, .int a1, .retAddr 0, .retAddr 0] [] h) := Ex_cg (n := 5) (as := [.ref b, .int a0, .int a1]) rfl rfl
theorem rL_law_1403 (Q : Po) (h : Hp) (l0 l1 l3 : Value) (x : Nat) (st : List Value) : Ex mL_law Q 1403 [l0, l1, .ref x, l3] st h = Ex mL_law Q 1404 [l0, l1, .ref x, l3] (.ref x :: st) h := Ex_nx rfl rfl
theorem rL_law_1404 (Q : Po) (h : Hp) (l1 l2 l3 : Value) (x : Nat) (st : List Value) : Ex mL_law Q 1404 [.ref x, l1, l2, l3] st h = Ex mL_law Q 1405 [.ref x, l1, l2, l3] (.ref x :: st) h := Ex_nx rfl rfl
theorem rL_law_1405 (Q : Po) (h : Hp) (l0 l1 l2 : Value) (x : Int32) (st : List Value) : Ex mL_law Q 1405 [l0, l1, l2, .int x] st h = Ex mL_law Q 1406 [l0, l1, l2, .int x] (.int x :: st) h := Ex_nx rfl rfl
theorem rL_law_1406 (Q : Po) (h : Hp) (ls : List Value) (st : List Value) : Ex mL_law Q 1406 ls st h = Ex mL_law Q 1407 ls (.int 1 :: st) h := Ex_nx rfl rfl
theorem rL_law_1407 (Q : Po) (h : Hp) (ls : List Value) (st : List Value) (x y : Int32) : Ex mL_law Q 1407 ls (.int y :: .int x :: st) h = Ex mL_law Q 1408 ls (.int (x + y) :: st) h := Ex_nx rfl rfl
theorem rL_law_1408 (Q : Po) (h : Hp) (ls : List Value) (st : List Value) (a : Nat) (i : Int32) : Ex mL_law Q 1408 ls (.int i :: .ref a :: st) h = ((gK h a = 58 ∧ ¬ (i < 0 ∨ gL h a ≤ i.toNatClampNeg)) ∧ Ex mL_law Q 1409 ls (.int (gI h a i.toNatClampNeg) :: st) h) := Ex_gd rfl rfl
theorem rL_law_1409 (Q : Po) (h : Hp) (l1 l2 l3 : Value) (x : Nat) (st : List Value) : Ex mL_law Q 1409 [.ref x, l1, l2, l3] st h = Ex mL_law Q 1410 [.ref x, l1, l2, l3] (.ref x :: st) h := Ex_nx rfl rfl
theorem rL_law_1410 (Q : Po) (h : Hp) (l0 l1 l2 : Value) (x : Int32) (st : List Value) : Ex mL_law Q 1410 [l0, l1, l2, .int x] st h = Ex mL_law Q 1411 [l0, l1, l2, .int x] (.int x :: st) h := Ex_nx rfl rfl
theorem rL_law_1411 (Q : Po) (h : Hp) (ls : List Value) (st : List Value) : Ex mL_law Q 1411 ls st h = Ex mL_law Q 1412 ls (.int 2 :: st) h := Ex_nx rfl rfl
theorem rL_law_1412 (Q : Po) (h : Hp) (ls : List Value) (st : List Value) (x y : Int32) : Ex mL_law Q 1412 ls (.int y :: .int x :: st) h = Ex mL_law Q 1413 ls (.int (x + y) :: st) h := Ex_nx rfl rfl
theorem rL_law_1413 (Q : Po) (h : Hp) (ls : List Value) (st : List Value) (a : Nat) (i : Int32) : Ex mL_law Q 1413 ls (.int i :: .ref a :: st) h = ((gK h a = 58 ∧ ¬ (i < 0 ∨ gL h a ≤ i.toNatClampNeg)) ∧ Ex mL_law Q 1414 ls (.int (gI h a i.toNatClampNeg) :: st) h) := Ex_gd rfl rfl
theorem rL_law_1414 (Q : Po) (h : Hp) (ls : List Value) (a0 : Int32) (a1 : Int32) (s0 : Value) (b : Nat) : Ex mL_law Q 1414 ls (.int a1 :: .int a0 :: .ref b :: [s0]) h = (gK h b = 9 ∧ Ex mX9_as (Cont mL_law Q 1414 ls 1417 [s0]) 0 [.ref b, .int a0, .int a1] [] h) := Ex_cg (n := 3) (as := [.ref b, .int a0, .int a1]) rfl rfl
theorem rL_law_1417 (Q : Po) (h : Hp) (ls : List Value) (st : List Value) (x y : Int32) : Ex mL_law Q 1417 ls (.int y :: .int x :: st) h = if x = y then Ex mL_law Q 1514 ls st h else Ex mL_law Q 1420 ls st h := Ex_br rfl rfl
theorem rL_law_1420 (Q : Po) (h : Hp) (ls : List Value) (st : List Value) : Ex mL_law Q 1420 ls st h = Ex mL_law Q 1421 ls (.int 0 :: st) h := Ex_nx rfl rfl
theorem rL_law_1421 (Q : Po) (h : Hp) (ls : List Value) (x : Int32) : Ex mL_law Q 1421 ls [.int x] h = ((x = 0 ∨ x = 1) ∧ Q (.inl (some (.int x))) h) := Ex_rg rfl rfl
theorem rL_law_1422 (Q : Po) (h : Hp) (l0 l2 l3 : Value) (x : Nat) (st : List Value) : Ex mL_law Q 1422 [l0, .ref x, l2, l3] st h = Ex mL_law Q 1423 [l0, .ref x, l2, l3] (.ref x :: st) h := Ex_nx rfl rfl
theorem rL_law_1423 (Q : Po) (h : Hp) (l1 l2 l3 : Value) (x : Nat) (st : List Value) : Ex mL_law Q 1423 [.ref x, l1, l2, l3] st h = Ex mL_law Q 1424 [.ref x, l1, l2, l3] (.ref x :: st) h := Ex_nx rfl rfl
theorem rL_law_1424 (Q : Po) (h : Hp) (l0 l1 l2 : Value) (x : Int32) (st : List Value) : Ex mL_law Q 1424 [l0, l1, l2, .int x] st h = Ex mL_law Q 1425 [l0, l1, l2, .int x] (.int x :: st) h := Ex_nx rfl rfl
theorem rL_law_1425 (Q : Po) (h : Hp) (ls : List Value) (st : List Value) : Ex mL_law Q 1425 ls st h = Ex mL_law Q 1426 ls (.int 1 :: st) h := Ex_nx rfl rfl
theorem rL_law_1426 (Q : Po) (h : Hp) (ls : List Value) (st : List Value) (x y : Int32) : Ex mL_law Q 1426 ls (.int y :: .int x :: st) h = Ex mL_law Q 1427 ls (.int (x + y) :: st) h := Ex_nx rfl rfl
theorem rL_law_1427 (Q : Po) (h : Hp) (ls : List Value) (st : List Value) (a : Nat) (i : Int32) : Ex mL_law Q 1427 ls (.int i :: .ref a :: st) h = ((gK h a = 58 ∧ ¬ (i < 0 ∨ gL h a ≤ i.toNatClampNeg)) ∧ Ex mL_law Q 1428 ls (.int (gI h a i.toNatClampNeg) :: st) h) := Ex_gd rfl rfl
theorem rL_law_1428 (Q : Po) (h : Hp) (l1 l2 l3 : Value) (x : Nat) (st : List Value) : Ex mL_law Q 1428 [.ref x, l1, l2, l3] st h = Ex mL_law Q 1429 [.ref x, l1, l2, l3] (.ref x :: st) h := Ex_nx rfl rfl
theorem rL_law_1429 (Q : Po) (h : Hp) (l0 l1 l2 : Value) (x : Int32) (st : List Value) : Ex mL_law Q 1429 [l0, l1, l2, .int x] st h = Ex mL_law Q 1430 [l0, l1, l2, .int x] (.int x :: st) h := Ex_nx rfl rfl
theorem rL_law_1430 (Q : Po) (h : Hp) (ls : List Value) (st : List Value) : Ex mL_law Q 1430 ls st h = Ex mL_law Q 1431 ls (.int 2 :: st) h := Ex_nx rfl rfl
theorem rL_law_1431 (Q : Po) (h : Hp) (ls : List Value) (st : List Value) (x y : Int32) : Ex mL_law Q 1431 ls (.int y :: .int x :: st) h = Ex mL_law Q 1432 ls (.int (x + y) :: st) h := Ex_nx rfl rfl
theorem rL_law_1432 (Q : Po) (h : Hp) (ls : List Value) (st : List Value) (a : Nat) (i : Int32) : Ex mL_law Q 1432 ls (.int i :: .ref a :: st) h = ((gK h a = 58 ∧ ¬ (i < 0 ∨ gL h a ≤ i.toNatClampNeg)) ∧ Ex mL_law Q 1433 ls (.int (gI h a i.toNatClampNeg) :: st) h) := Ex_gd rfl rfl
theorem rL_law_1433 (Q : Po) (h : Hp) (ls : List Value) (a0 : Int32) (a1 : Int32) (b : Nat) : Ex mL_law Q 1433 ls (.int a1 :: .int a0 :: .ref b :: []) h = (gK h b = 1 ∧ Ex mX0_ask (Cont mL_law Q 1433 ls 1436 []) 0 [.ref b, .int a0, .int a1, .retAddr 0] [] h) := Ex_cg (n := 4) (as := [.ref b, .int a0, .int a1]) rfl rfl
theorem rL_law_1436 (Q : Po) (h : Hp) (l0 l1 l3 : Value) (x : Nat) (st : List Value) : Ex mL_law Q 1436 [l0, l1, .ref x, l3] st h = Ex mL_law Q 1437 [l0, l1, .ref x, l3] (.ref x :: st) h := Ex_nx rfl rfl
theorem rL_law_1437 (Q : Po) (h : Hp) (l1 l2 l3 : Value) (x : Nat) (st : List Value) : Ex mL_law Q 1437 [.ref x, l1, l2, l3] st h = Ex mL_law Q 1438 [.ref x, l1, l2, l3] (.ref x :: st) h := Ex_nx rfl rfl
theorem rL_law_1438 (Q : Po) (h : Hp) (l0 l1 l2 : Value) (x : Int32) (st : List Value) : Ex mL_law Q 1438 [l0, l1, l2, .int x] st h = Ex mL_law Q 1439 [l0, l1, l2, .int x] (.int x :: st) h := Ex_nx rfl rfl
theorem rL_law_1439 (Q : Po) (h : Hp) (ls : List Value) (st : List Value) : Ex mL_law Q 1439 ls st h = Ex mL_law Q 1440 ls (.int 1 :: st) h := Ex_nx rfl rfl
theorem rL_law_1440 (Q : Po) (h : Hp) (ls : List Value) (st : List Value) (x y : Int32) : Ex mL_law Q 1440 ls (.int y :: .int x :: st) h = Ex mL_law Q 1441 ls (.int (x + y) :: st) h := Ex_nx rfl rfl
theorem rL_law_1441 (Q : Po) (h : Hp) (ls : List Value) (st : List Value) (a : Nat) (i : Int32) : Ex mL_law Q 1441 ls (.int i :: .ref a :: st) h = ((gK h a = 58 ∧ ¬ (i < 0 ∨ gL h a ≤ i.toNatClampNeg)) ∧ Ex mL_law Q 1442 ls (.int (gI h a i.toNatClampNeg) :: st) h) := Ex_gd rfl rfl
theorem rL_law_1442 (Q : Po) (h : Hp) (l1 l2 l3 : Value) (x : Nat) (st : List Value) : Ex mL_law Q 1442 [.ref x, l1, l2, l3] st h = Ex mL_law Q 1443 [.ref x, l1, l2, l3] (.ref x :: st) h := Ex_nx rfl rfl
theorem rL_law_1443 (Q : Po) (h : Hp) (l0 l1 l2 : Value) (x : Int32) (st : List Value) : Ex mL_law Q 1443 [l0, l1, l2, .int x] st h = Ex mL_law Q 1444 [l0, l1, l2, .int x] (.int x :: st) h := Ex_nx rfl rfl
theorem rL_law_1444 (Q : Po) (h : Hp) (ls : List Value) (st : List Value) : Ex mL_law Q 1444 ls st h = Ex mL_law Q 1445 ls (.int 2 :: st) h := Ex_nx rfl rfl
theorem rL_law_1445 (Q : Po) (h : Hp) (ls : List Value) (st : List Value) (x y : Int32) : Ex mL_law Q 1445 ls (.int y :: .int x :: st) h = Ex mL_law Q 1446 ls (.int (x + y) :: st) h := Ex_nx rfl rfl
theorem rL_law_1446 (Q : Po) (h : Hp) (ls : List Value) (st : List Value) (a : Nat) (i : Int32) : Ex mL_law Q 1446 ls (.int i :: .ref a :: st) h = ((gK h a = 58 ∧ ¬ (i < 0 ∨ gL h a ≤ i.toNatClampNeg)) ∧ Ex mL_law Q 1447 ls (.int (gI h a i.toNatClampNeg) :: st) h) := Ex_gd rfl rfl
theorem rL_law_1447 (Q : Po) (h : Hp) (ls : List Value) (a0 : Int32) (a1 : Int32) (s0 : Value) (b : Nat) : Ex mL_law Q 1447 ls (.int a1 :: .int a0 :: .ref b :: [s0]) h = (gK h b = 9 ∧ Ex mX9_ask (Cont mL_law Q 1447 ls 1450 [s0]) 0 [.ref b, .int a0, .int a1] [] h) := Ex_cg (n := 3) (as := [.ref b, .int a0, .int a1]) rfl rfl
theorem rL_law_1450 (Q : Po) (h : Hp) (ls : List Value) (st : List Value) (x y : Int32) : Ex mL_law Q 1450 ls (.int y :: .int x :: st) h = if x = y then Ex mL_law Q 1514 ls st h else Ex mL_law Q 1453 ls st h := Ex_br rfl rfl
theorem rL_law_1453 (Q : Po) (h : Hp) (ls : List Value) (st : List Value) : Ex mL_law Q 1453 ls st h = Ex mL_law Q 1454 ls (.int 0 :: st) h := Ex_nx rfl rfl
theorem rL_law_1454 (Q : Po) (h : Hp) (ls : List Value) (x : Int32) : Ex mL_law Q 1454 ls [.int x] h = ((x = 0 ∨ x = 1) ∧ Q (.inl (some (.int x))) h) := Ex_rg rfl rfl
theorem rL_law_1455 (Q : Po) (h : Hp) (l0 l2 l3 : Value) (x : Nat) (st : List Value) : Ex mL_law Q 1455 [l0, .ref x, l2, l3] st h = Ex mL_law Q 1456 [l0, .ref x, l2, l3] (.ref x :: st) h := Ex_nx rfl rfl
theorem rL_law_1456 (Q : Po) (h : Hp) (l1 l2 l3 : Value) (x : Nat) (st : List Value) : Ex mL_law Q 1456 [.ref x, l1, l2, l3] st h = Ex mL_law Q 1457 [.ref x, l1, l2, l3] (.ref x :: st) h := Ex_nx rfl rfl
theorem rL_law_1457 (Q : Po) (h : Hp) (l0 l1 l2 : Value) (x : Int32) (st : List Value) : Ex mL_law Q 1457 [l0, l1, l2, .int x] st h = Ex mL_law Q 1458 [l0, l1, l2, .int x] (.int x :: st) h := Ex_nx rfl rfl
theorem rL_law_1458 (Q : Po) (h : Hp) (ls : List Value) (st : List Value) : Ex mL_law Q 1458 ls st h = Ex mL_law Q 1459 ls (.int 1 :: st) h := Ex_nx rfl rfl
theorem rL_law_1459 (Q : Po) (h : Hp) (ls : List Value) (st : List Value) (x y : Int32) : Ex mL_law Q 1459 ls (.int y :: .int x :: st) h = Ex mL_law Q 1460 ls (.int (x + y) :: st) h := Ex_nx rfl rfl
theorem rL_law_1460 (Q : Po) (h : Hp) (ls : List Value) (st : List Value) (a : Nat) (i : Int32) : Ex mL_law Q 1460 ls (.int i :: .ref a :: st) h = ((gK h a = 58 ∧ ¬ (i < 0 ∨ gL h a ≤ i.toNatClampNeg)) ∧ Ex mL_law Q 1461 ls (.int (gI h a i.toNatClampNeg) :: st) h) := Ex_gd rfl rfl
theorem rL_law_1461 (Q : Po) (h : Hp) (ls : List Value) (a0 : Int32) (b : Nat) : Ex mL_law Q 1461 ls (.int a0 :: .ref b :: []) h = (gK h b = 1 ∧ Ex mX0_trace (Cont mL_law Q 1461 ls 1464 []) 0 [.ref b, .int a0] [] h) := Ex_cg (n := 2) (as := [.ref b, .int a0]) rfl rfl
theorem rL_law_1464 (Q : Po) (h : Hp) (l0 l1 l3 : Value) (x : Nat) (st : List Value) : Ex mL_law Q 1464 [l0, l1, .ref x, l3] st h = Ex mL_law Q 1465 [l0, l1, .ref x, l3] (.ref x :: st) h := Ex_nx rfl rfl
theorem rL_law_1465 (Q : Po) (h : Hp) (l1 l2 l3 : Value) (x : Nat) (st : List Value) : Ex mL_law Q 1465 [.ref x, l1, l2, l3] st h = Ex mL_law Q 1466 [.ref x, l1, l2, l3] (.ref x :: st) h := Ex_nx rfl rfl
theorem rL_law_1466 (Q : Po) (h : Hp) (l0 l1 l2 : Value) (x : Int32) (st : List Value) : Ex mL_law Q 1466 [l0, l1, l2, .int x] st h = Ex mL_law Q 1467 [l0, l1, l2, .int x] (.int x :: st) h := Ex_nx rfl rfl
theorem rL_law_1467 (Q : Po) (h : Hp) (ls : List Value) (st : List Value) : Ex mL_law Q 1467 ls st h = Ex mL_law Q 1468 ls (.int 1 :: st) h := Ex_nx rfl rfl
theorem rL_law_1468 (Q : Po) (h : Hp) (ls : List Value) (st : List Value) (x y : Int32) : Ex mL_law Q 1468 ls (.int y :: .int x :: st) h = Ex mL_law Q 1469 ls (.int (x + y) :: st) h := Ex_nx rfl rfl
theorem rL_law_1469 (Q : Po) (h : Hp) (ls : List Value) (st : List Value) (a : Nat) (i : Int32) : Ex mL_law Q 1469 ls (.int i :: .ref a :: st) h = ((gK h a = 58 ∧ ¬ (i < 0 ∨ gL h a ≤ i.toNatClampNeg)) ∧ Ex mL_law Q 1470 ls (.int (gI h a i.toNatClampNeg) :: st) h) := Ex_gd rfl rfl
theorem rL_law_1470 (Q : Po) (h : Hp) (ls : List Value) (a0 : Int32) (s0 : Value) (b : Nat) : Ex mL_law Q 1470 ls (.int a0 :: .ref b :: [s0]) h = (gK h b = 9 ∧ Ex mX9_trace (Cont mL_law Q 1470 ls 1473 [s0]) 0 [.ref b, .int a0] [] h) := Ex_cg (n := 2) (as := [.ref b, .int a0]) rfl rfl
theorem rL_law_1473 (Q : Po) (h : Hp) (ls : List Value) (st : List Value) (x y : Int32) : Ex mL_law Q 1473 ls (.int y :: .int x :: st) h = if x = y then Ex mL_law Q 1514 ls st h else Ex mL_law Q 1476 ls st h := Ex_br rfl rfl
theorem rL_law_1476 (Q : Po) (h : Hp) (ls : List Value) (st : List Value) : Ex mL_law Q 1476 ls st h = Ex mL_law Q 1477 ls (.int 0 :: st) h := Ex_nx rfl rfl
theorem rL_law_1477 (Q : Po) (h : Hp) (ls : List Value) (x : Int32) : Ex mL_law Q 1477 ls [.int x] h = ((x = 0 ∨ x = 1) ∧ Q (.inl (some (.int x))) h) := Ex_rg rfl rfl
theorem rL_law_1478 (Q : Po) (h : Hp) (l0 l2 l3 : Value) (x : Nat) (st : List Value) : Ex mL_law Q 1478 [l0, .ref x, l2, l3] st h = Ex mL_law Q 1479 [l0, .ref x, l2, l3] (.ref x :: st) h := Ex_nx rfl rfl
theorem rL_law_1479 (Q : Po) (h : Hp) (l1 l2 l3 : Value) (x : Nat) (st : List Value) : Ex mL_law Q 1479 [.ref x, l1, l2, l3] st h = Ex mL_law Q 1480 [.ref x, l1, l2, l3] (.ref x :: st) h := Ex_nx rfl rfl
theorem rL_law_1480 (Q : Po) (h : Hp) (l0 l1 l2 : Value) (x : Int32) (st : List Value) : Ex mL_law Q 1480 [l0, l1, l2, .int x] st h = Ex mL_law Q 1481 [l0, l1, l2, .int x] (.int x :: st) h := Ex_nx rfl rfl
theorem rL_law_1481 (Q : Po) (h : Hp) (ls : List Value) (st : List Value) : Ex mL_law Q 1481 ls st h = Ex mL_law Q 1482 ls (.int 1 :: st) h := Ex_nx rfl rfl
theorem rL_law_1482 (Q : Po) (h : Hp) (ls : List Value) (st : List Value) (x y : Int32) : Ex mL_law Q 1482 ls (.int y :: .int x :: st) h = Ex mL_law Q 1483 ls (.int (x + y) :: st) h := Ex_nx rfl rfl
theorem rL_law_1483 (Q : Po) (h : Hp) (ls : List Value) (st : List Value) (a : Nat) (i : Int32) : Ex mL_law Q 1483 ls (.int i :: .ref a :: st) h = ((gK h a = 58 ∧ ¬ (i < 0 ∨ gL h a ≤ i.toNatClampNeg)) ∧ Ex mL_law Q 1484 ls (.int (gI h a i.toNatClampNeg) :: st) h) := Ex_gd rfl rfl
theorem rL_law_1484 (Q : Po) (h : Hp) (ls : List Value) (a0 : Int32) (b : Nat) : Ex mL_law Q 1484 ls (.int a0 :: .ref b :: []) h = (gK h b = 1 ∧ Ex mX0_count (Cont mL_law Q 1484 ls 1487 []) 0 [.ref b, .int a0, .retAddr 0, .retAddr 0] [] h) := Ex_cg (n := 4) (as := [.ref b, .int a0]) rfl rfl
theorem rL_law_1487 (Q : Po) (h : Hp) (l0 l1 l3 : Value) (x : Nat) (st : List Value) : Ex mL_law Q 1487 [l0, l1, .ref x, l3] st h = Ex mL_law Q 1488 [l0, l1, .ref x, l3] (.ref x :: st) h := Ex_nx rfl rfl
theorem rL_law_1488 (Q : Po) (h : Hp) (l1 l2 l3 : Value) (x : Nat) (st : List Value) : Ex mL_law Q 1488 [.ref x, l1, l2, l3] st h = Ex mL_law Q 1489 [.ref x, l1, l2, l3] (.ref x :: st) h := Ex_nx rfl rfl
theorem rL_law_1489 (Q : Po) (h : Hp) (l0 l1 l2 : Value) (x : Int32) (st : List Value) : Ex mL_law Q 1489 [l0, l1, l2, .int x] st h = Ex mL_law Q 1490 [l0, l1, l2, .int x] (.int x :: st) h := Ex_nx rfl rfl
theorem rL_law_1490 (Q : Po) (h : Hp) (ls : List Value) (st : List Value) : Ex mL_law Q 1490 ls st h = Ex mL_law Q 1491 ls (.int 1 :: st) h := Ex_nx rfl rfl
theorem rL_law_1491 (Q : Po) (h : Hp) (ls : List Value) (st : List Value) (x y : Int32) : Ex mL_law Q 1491 ls (.int y :: .int x :: st) h = Ex mL_law Q 1492 ls (.int (x + y) :: st) h := Ex_nx rfl rfl
theorem rL_law_1492 (Q : Po) (h : Hp) (ls : List Value) (st : List Value) (a : Nat) (i : Int32) : Ex mL_law Q 1492 ls (.int i :: .ref a :: st) h = ((gK h a = 58 ∧ ¬ (i < 0 ∨ gL h a ≤ i.toNatClampNeg)) ∧ Ex mL_law Q 1493 ls (.int (gI h a i.toNatClampNeg) :: st) h) := Ex_gd rfl rfl
theorem rL_law_1493 (Q : Po) (h : Hp) (ls : List Value) (a0 : Int32) (s0 : Value) (b : Nat) : Ex mL_law Q 1493 ls (.int a0 :: .ref b :: [s0]) h = (gK h b = 9 ∧ Ex mX9_count (Cont mL_law Q 1493 ls 1496 [s0]) 0 [.ref b, .int a0, .retAddr 0, .retAddr 0, .retAddr 0] [] h) := Ex_cg (n := 5) (as := [.ref b, .int a0]) rfl rfl
theorem rL_law_1496 (Q : Po) (h : Hp) (ls : List Value) (st : List Value) (x y : Int32) : Ex mL_law Q 1496 ls (.int y :: .int x :: st) h = if x = y then Ex mL_law Q 1514 ls st h else Ex mL_law Q 1499 ls st h := Ex_br rfl rfl
theorem rL_law_1499 (Q : Po) (h : Hp) (ls : List Value) (st : List Value) : Ex mL_law Q 1499 ls st h = Ex mL_law Q 1500 ls (.int 0 :: st) h := Ex_nx rfl rfl
theorem rL_law_1500 (Q : Po) (h : Hp) (ls : List Value) (x : Int32) : Ex mL_law Q 1500 ls [.int x] h = ((x = 0 ∨ x = 1) ∧ Q (.inl (some (.int x))) h) := Ex_rg rfl rfl
theorem rL_law_1501 (Q : Po) (h : Hp) (l0 l2 l3 : Value) (x : Nat) (st : List Value) : Ex mL_law Q 1501 [l0, .ref x, l2, l3] st h = Ex mL_law Q 1502 [l0, .ref x, l2, l3] (.ref x :: st) h := Ex_nx rfl rfl
theorem rL_law_1502 (Q : Po) (h : Hp) (ls : List Value) (b : Nat) : Ex mL_law Q 1502 ls (.ref b :: []) h = (gK h b = 1 ∧ Ex mX0_status (Cont mL_law Q 1502 ls 1505 []) 0 [.ref b] [] h) := Ex_cg (n := 1) (as := [.ref b]) rfl rfl
theorem rL_law_1505 (Q : Po) (h : Hp) (l0 l1 l3 : Value) (x : Nat) (st : List Value) : Ex mL_law Q 1505 [l0, l1, .ref x, l3] st h = Ex mL_law Q 1506 [l0, l1, .ref x, l3] (.ref x :: st) h := Ex_nx rfl rfl
theorem rL_law_1506 (Q : Po) (h : Hp) (ls : List Value) (s0 : Value) (b : Nat) : Ex mL_law Q 1506 ls (.ref b :: [s0]) h = (gK h b = 9 ∧ Ex mX9_status (Cont mL_law Q 1506 ls 1509 [s0]) 0 [.ref b] [] h) := Ex_cg (n := 1) (as := [.ref b]) rfl rfl
theorem rL_law_1509 (Q : Po) (h : Hp) (ls : List Value) (st : List Value) (x y : Int32) : Ex mL_law Q 1509 ls (.int y :: .int x :: st) h = if x = y then Ex mL_law Q 1514 ls st h else Ex mL_law Q 1512 ls st h := Ex_br rfl rfl
theorem rL_law_1512 (Q : Po) (h : Hp) (ls : List Value) (st : List Value) : Ex mL_law Q 1512 ls st h = Ex mL_law Q 1513 ls (.int 0 :: st) h := Ex_nx rfl rfl
theorem rL_law_1513 (Q : Po) (h : Hp) (ls : List Value) (x : Int32) : Ex mL_law Q 1513 ls [.int x] h = ((x = 0 ∨ x = 1) ∧ Q (.inl (some (.int x))) h) := Ex_rg rfl rfl
theorem rL_law_1514 (Q : Po) (h : Hp) (l0 l1 l2 : Value) (x : Int32) (st : List Value) : Ex mL_law Q 1514 [l0, l1, l2, .int x] st h = Ex mL_law Q 1517 [l0, l1, l2, .int (x + 7)] st h := Ex_nx rfl rfl
theorem rL_law_1517 (Q : Po) (h : Hp) (ls : List Value) (st : List Value) : Ex mL_law Q 1517 ls st h = Ex mL_law Q 18 ls st h := Ex_nx rfl rfl
theorem rL_law_1520 (Q : Po) (h : Hp) (ls : List Value) (st : List Value) : Ex mL_law Q 1520 ls st h = Ex mL_law Q 1521 ls (.int 1 :: st) h := Ex_nx rfl rfl
theorem rL_law_1521 (Q : Po) (h : Hp) (ls : List Value) (x : Int32) : Ex mL_law Q 1521 ls [.int x] h = ((x = 0 ∨ x = 1) ∧ Q (.inl (some (.int x))) h) := Ex_rg rfl rfl
theorem rL_law_t (Q : Po) (h : Hp) (pc n a : Nat) (ls st : List Value) : Cont mL_law Q pc ls n st (.inr a) h = Q (.inr a) h := rfl
